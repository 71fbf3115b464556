set_option maxRecDepth 100000
abbrev cX1_init : ByteArray := prog_1_method_3_code
def yX1_init : MethodName := ⟨RX1, "<init>", "()V"⟩
def dkwX1_init_9 : List UInt8 := [167, 255, 219, 3, 60, 27, 6, 162, 0, 16, 42, 180, 0, 43, 27, 2, 79, 132, 1, 1, 167, 255, 241, 177]
abbrev dktX1_init_9 : List UInt8 := dkwX1_init_9 ++ []
def dkwX1_init_8 : List UInt8 := [180, 0, 33, 27, 50, 28, 187, 0, 20, 89, 183, 0, 22, 83, 132, 2, 1, 167, 255, 232, 132, 1, 1]
abbrev dktX1_init_8 : List UInt8 := dkwX1_init_8 ++ dktX1_init_9
def dkwX1_init_7 : List UInt8 := [132, 1, 1, 167, 255, 234, 3, 60, 27, 6, 162, 0, 38, 3, 61, 28, 16, 20, 163, 0, 24, 42]
abbrev dktX1_init_7 : List UInt8 := dkwX1_init_7 ++ dktX1_init_8
def dkwX1_init_6 : List UInt8 := [181, 0, 83, 3, 60, 27, 16, 20, 162, 0, 22, 42, 180, 0, 27, 27, 187, 0, 20, 89, 183, 0, 22, 83]
abbrev dktX1_init_6 : List UInt8 := dkwX1_init_6 ++ dktX1_init_7
def dkwX1_init_5 : List UInt8 := [187, 0, 69, 89, 183, 0, 71, 181, 0, 72, 42, 187, 0, 76, 89, 183, 0, 78, 181, 0, 79, 42, 2]
abbrev dktX1_init_5 : List UInt8 := dkwX1_init_5 ++ dktX1_init_6
def dkwX1_init_4 : List UInt8 := [89, 42, 180, 0, 16, 183, 0, 57, 181, 0, 58, 42, 187, 0, 62, 89, 183, 0, 64, 181, 0, 65, 42]
abbrev dktX1_init_4 : List UInt8 := dkwX1_init_4 ++ dktX1_init_5
def dkwX1_init_3 : List UInt8 := [188, 10, 181, 0, 43, 42, 187, 0, 46, 89, 42, 180, 0, 16, 183, 0, 48, 181, 0, 51, 42, 187, 0, 55]
abbrev dktX1_init_3 : List UInt8 := dkwX1_init_3 ++ dktX1_init_4
def dkwX1_init_2 : List UInt8 := [197, 0, 31, 2, 181, 0, 33, 42, 6, 188, 10, 181, 0, 36, 42, 6, 188, 10, 181, 0, 40, 42, 6]
abbrev dktX1_init_2 : List UInt8 := dkwX1_init_2 ++ dktX1_init_3
def dkwX1_init_1 : List UInt8 := [42, 187, 0, 20, 89, 183, 0, 22, 181, 0, 23, 42, 16, 20, 189, 0, 20, 181, 0, 27, 42, 6, 16, 21]
abbrev dktX1_init_1 : List UInt8 := dkwX1_init_1 ++ dktX1_init_2
def dkwX1_init_0 : List UInt8 := [42, 183, 0, 1, 42, 17, 2, 88, 188, 8, 181, 0, 9, 42, 187, 0, 13, 89, 183, 0, 15, 181, 0, 16]
abbrev dktX1_init_0 : List UInt8 := dkwX1_init_0 ++ dktX1_init_1
theorem dksX1_init_0 : cX1_init.data.toList.drop 0 = dktX1_init_0 := by decide +kernel
theorem dksX1_init_1 : cX1_init.data.toList.drop 24 = dktX1_init_1 := dk_seg dksX1_init_0 24 rfl rfl
theorem dksX1_init_2 : cX1_init.data.toList.drop 48 = dktX1_init_2 := dk_seg dksX1_init_1 24 rfl rfl
theorem dksX1_init_3 : cX1_init.data.toList.drop 71 = dktX1_init_3 := dk_seg dksX1_init_2 23 rfl rfl
theorem dksX1_init_4 : cX1_init.data.toList.drop 95 = dktX1_init_4 := dk_seg dksX1_init_3 24 rfl rfl
theorem dksX1_init_5 : cX1_init.data.toList.drop 118 = dktX1_init_5 := dk_seg dksX1_init_4 23 rfl rfl
theorem dksX1_init_6 : cX1_init.data.toList.drop 141 = dktX1_init_6 := dk_seg dksX1_init_5 23 rfl rfl
theorem dksX1_init_7 : cX1_init.data.toList.drop 165 = dktX1_init_7 := dk_seg dksX1_init_6 24 rfl rfl
theorem dksX1_init_8 : cX1_init.data.toList.drop 187 = dktX1_init_8 := dk_seg dksX1_init_7 22 rfl rfl
theorem dksX1_init_9 : cX1_init.data.toList.drop 210 = dktX1_init_9 := dk_seg dksX1_init_8 23 rfl rfl
theorem dX1_init_0 : decode cX1_init 0 = .ok (.aload_n 0, 1) := dk_42 (dk_at dksX1_init_0 0 rfl rfl)
theorem dX1_init_1 : decode cX1_init 1 = .ok (.invokespecial 1, 3) := dk_183 0 1 (dk_at dksX1_init_0 1 rfl rfl)
theorem dX1_init_4 : decode cX1_init 4 = .ok (.aload_n 0, 1) := dk_42 (dk_at dksX1_init_0 4 rfl rfl)
theorem dX1_init_5 : decode cX1_init 5 = .ok (.sipush 600, 3) := dk_17 2 88 (dk_at dksX1_init_0 5 rfl rfl)
theorem dX1_init_8 : decode cX1_init 8 = .ok (.newarray .byte, 2) := dk_188_8 (dk_at dksX1_init_0 8 rfl rfl)
theorem dX1_init_10 : decode cX1_init 10 = .ok (.putfield 9, 3) := dk_181 0 9 (dk_at dksX1_init_0 10 rfl rfl)
theorem dX1_init_13 : decode cX1_init 13 = .ok (.aload_n 0, 1) := dk_42 (dk_at dksX1_init_0 13 rfl rfl)
theorem dX1_init_14 : decode cX1_init 14 = .ok (.new 13, 3) := dk_187 0 13 (dk_at dksX1_init_0 14 rfl rfl)
theorem dX1_init_17 : decode cX1_init 17 = .ok (.dup, 1) := dk_89 (dk_at dksX1_init_0 17 rfl rfl)
theorem dX1_init_18 : decode cX1_init 18 = .ok (.invokespecial 15, 3) := dk_183 0 15 (dk_at dksX1_init_0 18 rfl rfl)
theorem dX1_init_21 : decode cX1_init 21 = .ok (.putfield 16, 3) := dk_181 0 16 (dk_at dksX1_init_0 21 rfl rfl)
theorem dX1_init_24 : decode cX1_init 24 = .ok (.aload_n 0, 1) := dk_42 (dk_at dksX1_init_1 0 rfl rfl)
theorem dX1_init_25 : decode cX1_init 25 = .ok (.new 20, 3) := dk_187 0 20 (dk_at dksX1_init_1 1 rfl rfl)
theorem dX1_init_28 : decode cX1_init 28 = .ok (.dup, 1) := dk_89 (dk_at dksX1_init_1 4 rfl rfl)
theorem dX1_init_29 : decode cX1_init 29 = .ok (.invokespecial 22, 3) := dk_183 0 22 (dk_at dksX1_init_1 5 rfl rfl)
theorem dX1_init_32 : decode cX1_init 32 = .ok (.putfield 23, 3) := dk_181 0 23 (dk_at dksX1_init_1 8 rfl rfl)
theorem dX1_init_35 : decode cX1_init 35 = .ok (.aload_n 0, 1) := dk_42 (dk_at dksX1_init_1 11 rfl rfl)
theorem dX1_init_36 : decode cX1_init 36 = .ok (.bipush 20, 2) := dk_16 20 (dk_at dksX1_init_1 12 rfl rfl)
theorem dX1_init_38 : decode cX1_init 38 = .ok (.anewarray 20, 3) := dk_189 0 20 (dk_at dksX1_init_1 14 rfl rfl)
theorem dX1_init_41 : decode cX1_init 41 = .ok (.putfield 27, 3) := dk_181 0 27 (dk_at dksX1_init_1 17 rfl rfl)
theorem dX1_init_44 : decode cX1_init 44 = .ok (.aload_n 0, 1) := dk_42 (dk_at dksX1_init_1 20 rfl rfl)
theorem dX1_init_45 : decode cX1_init 45 = .ok (.iconst 3, 1) := dk_6 (dk_at dksX1_init_1 21 rfl rfl)
theorem dX1_init_46 : decode cX1_init 46 = .ok (.bipush 21, 2) := dk_16 21 (dk_at dksX1_init_1 22 rfl rfl)
theorem dX1_init_48 : decode cX1_init 48 = .ok (.multianewarray 31 2, 4) := by decide +kernel
theorem dX1_init_52 : decode cX1_init 52 = .ok (.putfield 33, 3) := dk_181 0 33 (dk_at dksX1_init_2 4 rfl rfl)
theorem dX1_init_55 : decode cX1_init 55 = .ok (.aload_n 0, 1) := dk_42 (dk_at dksX1_init_2 7 rfl rfl)
theorem dX1_init_56 : decode cX1_init 56 = .ok (.iconst 3, 1) := dk_6 (dk_at dksX1_init_2 8 rfl rfl)
theorem dX1_init_57 : decode cX1_init 57 = .ok (.newarray .int, 2) := dk_188_10 (dk_at dksX1_init_2 9 rfl rfl)
theorem dX1_init_59 : decode cX1_init 59 = .ok (.putfield 36, 3) := dk_181 0 36 (dk_at dksX1_init_2 11 rfl rfl)
theorem dX1_init_62 : decode cX1_init 62 = .ok (.aload_n 0, 1) := dk_42 (dk_at dksX1_init_2 14 rfl rfl)
theorem dX1_init_63 : decode cX1_init 63 = .ok (.iconst 3, 1) := dk_6 (dk_at dksX1_init_2 15 rfl rfl)
theorem dX1_init_64 : decode cX1_init 64 = .ok (.newarray .int, 2) := dk_188_10 (dk_at dksX1_init_2 16 rfl rfl)
theorem dX1_init_66 : decode cX1_init 66 = .ok (.putfield 40, 3) := dk_181 0 40 (dk_at dksX1_init_2 18 rfl rfl)
theorem dX1_init_69 : decode cX1_init 69 = .ok (.aload_n 0, 1) := dk_42 (dk_at dksX1_init_2 21 rfl rfl)
theorem dX1_init_70 : decode cX1_init 70 = .ok (.iconst 3, 1) := dk_6 (dk_at dksX1_init_2 22 rfl rfl)
theorem dX1_init_71 : decode cX1_init 71 = .ok (.newarray .int, 2) := dk_188_10 (dk_at dksX1_init_3 0 rfl rfl)
theorem dX1_init_73 : decode cX1_init 73 = .ok (.putfield 43, 3) := dk_181 0 43 (dk_at dksX1_init_3 2 rfl rfl)
theorem dX1_init_76 : decode cX1_init 76 = .ok (.aload_n 0, 1) := dk_42 (dk_at dksX1_init_3 5 rfl rfl)
theorem dX1_init_77 : decode cX1_init 77 = .ok (.new 46, 3) := dk_187 0 46 (dk_at dksX1_init_3 6 rfl rfl)
theorem dX1_init_80 : decode cX1_init 80 = .ok (.dup, 1) := dk_89 (dk_at dksX1_init_3 9 rfl rfl)
theorem dX1_init_81 : decode cX1_init 81 = .ok (.aload_n 0, 1) := dk_42 (dk_at dksX1_init_3 10 rfl rfl)
theorem dX1_init_82 : decode cX1_init 82 = .ok (.getfield 16, 3) := dk_180 0 16 (dk_at dksX1_init_3 11 rfl rfl)
theorem dX1_init_85 : decode cX1_init 85 = .ok (.invokespecial 48, 3) := dk_183 0 48 (dk_at dksX1_init_3 14 rfl rfl)
theorem dX1_init_88 : decode cX1_init 88 = .ok (.putfield 51, 3) := dk_181 0 51 (dk_at dksX1_init_3 17 rfl rfl)
theorem dX1_init_91 : decode cX1_init 91 = .ok (.aload_n 0, 1) := dk_42 (dk_at dksX1_init_3 20 rfl rfl)
theorem dX1_init_92 : decode cX1_init 92 = .ok (.new 55, 3) := dk_187 0 55 (dk_at dksX1_init_3 21 rfl rfl)
theorem dX1_init_95 : decode cX1_init 95 = .ok (.dup, 1) := dk_89 (dk_at dksX1_init_4 0 rfl rfl)
theorem dX1_init_96 : decode cX1_init 96 = .ok (.aload_n 0, 1) := dk_42 (dk_at dksX1_init_4 1 rfl rfl)
theorem dX1_init_97 : decode cX1_init 97 = .ok (.getfield 16, 3) := dk_180 0 16 (dk_at dksX1_init_4 2 rfl rfl)
theorem dX1_init_100 : decode cX1_init 100 = .ok (.invokespecial 57, 3) := dk_183 0 57 (dk_at dksX1_init_4 5 rfl rfl)
theorem dX1_init_103 : decode cX1_init 103 = .ok (.putfield 58, 3) := dk_181 0 58 (dk_at dksX1_init_4 8 rfl rfl)
theorem dX1_init_106 : decode cX1_init 106 = .ok (.aload_n 0, 1) := dk_42 (dk_at dksX1_init_4 11 rfl rfl)
theorem dX1_init_107 : decode cX1_init 107 = .ok (.new 62, 3) := dk_187 0 62 (dk_at dksX1_init_4 12 rfl rfl)
theorem dX1_init_110 : decode cX1_init 110 = .ok (.dup, 1) := dk_89 (dk_at dksX1_init_4 15 rfl rfl)
theorem dX1_init_111 : decode cX1_init 111 = .ok (.invokespecial 64, 3) := dk_183 0 64 (dk_at dksX1_init_4 16 rfl rfl)
theorem dX1_init_114 : decode cX1_init 114 = .ok (.putfield 65, 3) := dk_181 0 65 (dk_at dksX1_init_4 19 rfl rfl)
theorem dX1_init_117 : decode cX1_init 117 = .ok (.aload_n 0, 1) := dk_42 (dk_at dksX1_init_4 22 rfl rfl)
theorem dX1_init_118 : decode cX1_init 118 = .ok (.new 69, 3) := dk_187 0 69 (dk_at dksX1_init_5 0 rfl rfl)
theorem dX1_init_121 : decode cX1_init 121 = .ok (.dup, 1) := dk_89 (dk_at dksX1_init_5 3 rfl rfl)
theorem dX1_init_122 : decode cX1_init 122 = .ok (.invokespecial 71, 3) := dk_183 0 71 (dk_at dksX1_init_5 4 rfl rfl)
theorem dX1_init_125 : decode cX1_init 125 = .ok (.putfield 72, 3) := dk_181 0 72 (dk_at dksX1_init_5 7 rfl rfl)
theorem dX1_init_128 : decode cX1_init 128 = .ok (.aload_n 0, 1) := dk_42 (dk_at dksX1_init_5 10 rfl rfl)
theorem dX1_init_129 : decode cX1_init 129 = .ok (.new 76, 3) := dk_187 0 76 (dk_at dksX1_init_5 11 rfl rfl)
theorem dX1_init_132 : decode cX1_init 132 = .ok (.dup, 1) := dk_89 (dk_at dksX1_init_5 14 rfl rfl)
theorem dX1_init_133 : decode cX1_init 133 = .ok (.invokespecial 78, 3) := dk_183 0 78 (dk_at dksX1_init_5 15 rfl rfl)
theorem dX1_init_136 : decode cX1_init 136 = .ok (.putfield 79, 3) := dk_181 0 79 (dk_at dksX1_init_5 18 rfl rfl)
theorem dX1_init_139 : decode cX1_init 139 = .ok (.aload_n 0, 1) := dk_42 (dk_at dksX1_init_5 21 rfl rfl)
theorem dX1_init_140 : decode cX1_init 140 = .ok (.iconst (-1), 1) := dk_2 (dk_at dksX1_init_5 22 rfl rfl)
theorem dX1_init_141 : decode cX1_init 141 = .ok (.putfield 83, 3) := dk_181 0 83 (dk_at dksX1_init_6 0 rfl rfl)
theorem dX1_init_144 : decode cX1_init 144 = .ok (.iconst 0, 1) := dk_3 (dk_at dksX1_init_6 3 rfl rfl)
theorem dX1_init_145 : decode cX1_init 145 = .ok (.istore_n 1, 1) := dk_60 (dk_at dksX1_init_6 4 rfl rfl)
theorem dX1_init_146 : decode cX1_init 146 = .ok (.iload_n 1, 1) := dk_27 (dk_at dksX1_init_6 5 rfl rfl)
theorem dX1_init_147 : decode cX1_init 147 = .ok (.bipush 20, 2) := dk_16 20 (dk_at dksX1_init_6 6 rfl rfl)
theorem dX1_init_149 : decode cX1_init 149 = .ok (.if_icmp .ge 22, 3) := dk_162 0 22 (dk_at dksX1_init_6 8 rfl rfl)
theorem dX1_init_152 : decode cX1_init 152 = .ok (.aload_n 0, 1) := dk_42 (dk_at dksX1_init_6 11 rfl rfl)
theorem dX1_init_153 : decode cX1_init 153 = .ok (.getfield 27, 3) := dk_180 0 27 (dk_at dksX1_init_6 12 rfl rfl)
theorem dX1_init_156 : decode cX1_init 156 = .ok (.iload_n 1, 1) := dk_27 (dk_at dksX1_init_6 15 rfl rfl)
theorem dX1_init_157 : decode cX1_init 157 = .ok (.new 20, 3) := dk_187 0 20 (dk_at dksX1_init_6 16 rfl rfl)
theorem dX1_init_160 : decode cX1_init 160 = .ok (.dup, 1) := dk_89 (dk_at dksX1_init_6 19 rfl rfl)
theorem dX1_init_161 : decode cX1_init 161 = .ok (.invokespecial 22, 3) := dk_183 0 22 (dk_at dksX1_init_6 20 rfl rfl)
theorem dX1_init_164 : decode cX1_init 164 = .ok (.aastore, 1) := dk_83 (dk_at dksX1_init_6 23 rfl rfl)
theorem dX1_init_165 : decode cX1_init 165 = .ok (.iinc 1 1, 3) := dk_132 1 1 (dk_at dksX1_init_7 0 rfl rfl)
theorem dX1_init_168 : decode cX1_init 168 = .ok (.goto (-22), 3) := dk_167 255 234 (dk_at dksX1_init_7 3 rfl rfl)
theorem dX1_init_171 : decode cX1_init 171 = .ok (.iconst 0, 1) := dk_3 (dk_at dksX1_init_7 6 rfl rfl)
theorem dX1_init_172 : decode cX1_init 172 = .ok (.istore_n 1, 1) := dk_60 (dk_at dksX1_init_7 7 rfl rfl)
theorem dX1_init_173 : decode cX1_init 173 = .ok (.iload_n 1, 1) := dk_27 (dk_at dksX1_init_7 8 rfl rfl)
theorem dX1_init_174 : decode cX1_init 174 = .ok (.iconst 3, 1) := dk_6 (dk_at dksX1_init_7 9 rfl rfl)
theorem dX1_init_175 : decode cX1_init 175 = .ok (.if_icmp .ge 38, 3) := dk_162 0 38 (dk_at dksX1_init_7 10 rfl rfl)
theorem dX1_init_178 : decode cX1_init 178 = .ok (.iconst 0, 1) := dk_3 (dk_at dksX1_init_7 13 rfl rfl)
theorem dX1_init_179 : decode cX1_init 179 = .ok (.istore_n 2, 1) := dk_61 (dk_at dksX1_init_7 14 rfl rfl)
theorem dX1_init_180 : decode cX1_init 180 = .ok (.iload_n 2, 1) := dk_28 (dk_at dksX1_init_7 15 rfl rfl)
theorem dX1_init_181 : decode cX1_init 181 = .ok (.bipush 20, 2) := dk_16 20 (dk_at dksX1_init_7 16 rfl rfl)
theorem dX1_init_183 : decode cX1_init 183 = .ok (.if_icmp .gt 24, 3) := dk_163 0 24 (dk_at dksX1_init_7 18 rfl rfl)
theorem dX1_init_186 : decode cX1_init 186 = .ok (.aload_n 0, 1) := dk_42 (dk_at dksX1_init_7 21 rfl rfl)
theorem dX1_init_187 : decode cX1_init 187 = .ok (.getfield 33, 3) := dk_180 0 33 (dk_at dksX1_init_8 0 rfl rfl)
theorem dX1_init_190 : decode cX1_init 190 = .ok (.iload_n 1, 1) := dk_27 (dk_at dksX1_init_8 3 rfl rfl)
theorem dX1_init_191 : decode cX1_init 191 = .ok (.aaload, 1) := dk_50 (dk_at dksX1_init_8 4 rfl rfl)
theorem dX1_init_192 : decode cX1_init 192 = .ok (.iload_n 2, 1) := dk_28 (dk_at dksX1_init_8 5 rfl rfl)
theorem dX1_init_193 : decode cX1_init 193 = .ok (.new 20, 3) := dk_187 0 20 (dk_at dksX1_init_8 6 rfl rfl)
theorem dX1_init_196 : decode cX1_init 196 = .ok (.dup, 1) := dk_89 (dk_at dksX1_init_8 9 rfl rfl)
theorem dX1_init_197 : decode cX1_init 197 = .ok (.invokespecial 22, 3) := dk_183 0 22 (dk_at dksX1_init_8 10 rfl rfl)
theorem dX1_init_200 : decode cX1_init 200 = .ok (.aastore, 1) := dk_83 (dk_at dksX1_init_8 13 rfl rfl)
theorem dX1_init_201 : decode cX1_init 201 = .ok (.iinc 2 1, 3) := dk_132 2 1 (dk_at dksX1_init_8 14 rfl rfl)
theorem dX1_init_204 : decode cX1_init 204 = .ok (.goto (-24), 3) := dk_167 255 232 (dk_at dksX1_init_8 17 rfl rfl)
theorem dX1_init_207 : decode cX1_init 207 = .ok (.iinc 1 1, 3) := dk_132 1 1 (dk_at dksX1_init_8 20 rfl rfl)
theorem dX1_init_210 : decode cX1_init 210 = .ok (.goto (-37), 3) := dk_167 255 219 (dk_at dksX1_init_9 0 rfl rfl)
theorem dX1_init_213 : decode cX1_init 213 = .ok (.iconst 0, 1) := dk_3 (dk_at dksX1_init_9 3 rfl rfl)
theorem dX1_init_214 : decode cX1_init 214 = .ok (.istore_n 1, 1) := dk_60 (dk_at dksX1_init_9 4 rfl rfl)
theorem dX1_init_215 : decode cX1_init 215 = .ok (.iload_n 1, 1) := dk_27 (dk_at dksX1_init_9 5 rfl rfl)
theorem dX1_init_216 : decode cX1_init 216 = .ok (.iconst 3, 1) := dk_6 (dk_at dksX1_init_9 6 rfl rfl)
theorem dX1_init_217 : decode cX1_init 217 = .ok (.if_icmp .ge 16, 3) := dk_162 0 16 (dk_at dksX1_init_9 7 rfl rfl)
theorem dX1_init_220 : decode cX1_init 220 = .ok (.aload_n 0, 1) := dk_42 (dk_at dksX1_init_9 10 rfl rfl)
theorem dX1_init_221 : decode cX1_init 221 = .ok (.getfield 43, 3) := dk_180 0 43 (dk_at dksX1_init_9 11 rfl rfl)
theorem dX1_init_224 : decode cX1_init 224 = .ok (.iload_n 1, 1) := dk_27 (dk_at dksX1_init_9 14 rfl rfl)
theorem dX1_init_225 : decode cX1_init 225 = .ok (.iconst (-1), 1) := dk_2 (dk_at dksX1_init_9 15 rfl rfl)
theorem dX1_init_226 : decode cX1_init 226 = .ok (.iastore, 1) := dk_79 (dk_at dksX1_init_9 16 rfl rfl)
theorem dX1_init_227 : decode cX1_init 227 = .ok (.iinc 1 1, 3) := dk_132 1 1 (dk_at dksX1_init_9 17 rfl rfl)
theorem dX1_init_230 : decode cX1_init 230 = .ok (.goto (-15), 3) := dk_167 255 241 (dk_at dksX1_init_9 20 rfl rfl)
theorem dX1_init_233 : decode cX1_init 233 = .ok (.return_, 1) := dk_177 (dk_at dksX1_init_9 23 rfl rfl)
abbrev cX1_feed : ByteArray := prog_1_method_10_code
def yX1_feed : MethodName := ⟨RX1, "feed", "(IIIII)I"⟩
def dkwX1_feed_4 : List UInt8 := [180, 0, 109, 172]
abbrev dktX1_feed_4 : List UInt8 := dkwX1_feed_4 ++ []
def dkwX1_feed_3 : List UInt8 := [7, 108, 46, 16, 24, 16, 8, 21, 7, 7, 112, 104, 100, 122, 145, 84, 132, 7, 1, 167, 255, 211, 42]
abbrev dktX1_feed_3 : List UInt8 := dkwX1_feed_3 ++ dktX1_feed_4
def dkwX1_feed_2 : List UInt8 := [16, 20, 162, 0, 44, 42, 180, 0, 9, 42, 89, 180, 0, 109, 90, 4, 96, 181, 0, 109, 25, 6, 21, 7]
abbrev dktX1_feed_2 : List UInt8 := dkwX1_feed_2 ++ dktX1_feed_3
def dkwX1_feed_1 : List UInt8 := [28, 79, 89, 5, 29, 79, 89, 6, 21, 4, 79, 89, 7, 21, 5, 79, 58, 6, 3, 54, 7, 21, 7]
abbrev dktX1_feed_1 : List UInt8 := dkwX1_feed_1 ++ dktX1_feed_2
def dkwX1_feed_0 : List UInt8 := [42, 180, 0, 109, 16, 20, 96, 17, 2, 88, 164, 0, 5, 2, 172, 8, 188, 10, 89, 3, 27, 79, 89, 4]
abbrev dktX1_feed_0 : List UInt8 := dkwX1_feed_0 ++ dktX1_feed_1
theorem dksX1_feed_0 : cX1_feed.data.toList.drop 0 = dktX1_feed_0 := by decide +kernel
theorem dksX1_feed_1 : cX1_feed.data.toList.drop 24 = dktX1_feed_1 := dk_seg dksX1_feed_0 24 rfl rfl
theorem dksX1_feed_2 : cX1_feed.data.toList.drop 47 = dktX1_feed_2 := dk_seg dksX1_feed_1 23 rfl rfl
theorem dksX1_feed_3 : cX1_feed.data.toList.drop 71 = dktX1_feed_3 := dk_seg dksX1_feed_2 24 rfl rfl
theorem dksX1_feed_4 : cX1_feed.data.toList.drop 94 = dktX1_feed_4 := dk_seg dksX1_feed_3 23 rfl rfl
theorem dX1_feed_0 : decode cX1_feed 0 = .ok (.aload_n 0, 1) := dk_42 (dk_at dksX1_feed_0 0 rfl rfl)
theorem dX1_feed_1 : decode cX1_feed 1 = .ok (.getfield 109, 3) := dk_180 0 109 (dk_at dksX1_feed_0 1 rfl rfl)
theorem dX1_feed_4 : decode cX1_feed 4 = .ok (.bipush 20, 2) := dk_16 20 (dk_at dksX1_feed_0 4 rfl rfl)
theorem dX1_feed_6 : decode cX1_feed 6 = .ok (.iadd, 1) := dk_96 (dk_at dksX1_feed_0 6 rfl rfl)
theorem dX1_feed_7 : decode cX1_feed 7 = .ok (.sipush 600, 3) := dk_17 2 88 (dk_at dksX1_feed_0 7 rfl rfl)
theorem dX1_feed_10 : decode cX1_feed 10 = .ok (.if_icmp .le 5, 3) := dk_164 0 5 (dk_at dksX1_feed_0 10 rfl rfl)
theorem dX1_feed_13 : decode cX1_feed 13 = .ok (.iconst (-1), 1) := dk_2 (dk_at dksX1_feed_0 13 rfl rfl)
theorem dX1_feed_14 : decode cX1_feed 14 = .ok (.ireturn, 1) := dk_172 (dk_at dksX1_feed_0 14 rfl rfl)
theorem dX1_feed_15 : decode cX1_feed 15 = .ok (.iconst 5, 1) := dk_8 (dk_at dksX1_feed_0 15 rfl rfl)
theorem dX1_feed_16 : decode cX1_feed 16 = .ok (.newarray .int, 2) := dk_188_10 (dk_at dksX1_feed_0 16 rfl rfl)
theorem dX1_feed_18 : decode cX1_feed 18 = .ok (.dup, 1) := dk_89 (dk_at dksX1_feed_0 18 rfl rfl)
theorem dX1_feed_19 : decode cX1_feed 19 = .ok (.iconst 0, 1) := dk_3 (dk_at dksX1_feed_0 19 rfl rfl)
theorem dX1_feed_20 : decode cX1_feed 20 = .ok (.iload_n 1, 1) := dk_27 (dk_at dksX1_feed_0 20 rfl rfl)
theorem dX1_feed_21 : decode cX1_feed 21 = .ok (.iastore, 1) := dk_79 (dk_at dksX1_feed_0 21 rfl rfl)
theorem dX1_feed_22 : decode cX1_feed 22 = .ok (.dup, 1) := dk_89 (dk_at dksX1_feed_0 22 rfl rfl)
theorem dX1_feed_23 : decode cX1_feed 23 = .ok (.iconst 1, 1) := dk_4 (dk_at dksX1_feed_0 23 rfl rfl)
theorem dX1_feed_24 : decode cX1_feed 24 = .ok (.iload_n 2, 1) := dk_28 (dk_at dksX1_feed_1 0 rfl rfl)
theorem dX1_feed_25 : decode cX1_feed 25 = .ok (.iastore, 1) := dk_79 (dk_at dksX1_feed_1 1 rfl rfl)
theorem dX1_feed_26 : decode cX1_feed 26 = .ok (.dup, 1) := dk_89 (dk_at dksX1_feed_1 2 rfl rfl)
theorem dX1_feed_27 : decode cX1_feed 27 = .ok (.iconst 2, 1) := dk_5 (dk_at dksX1_feed_1 3 rfl rfl)
theorem dX1_feed_28 : decode cX1_feed 28 = .ok (.iload_n 3, 1) := dk_29 (dk_at dksX1_feed_1 4 rfl rfl)
theorem dX1_feed_29 : decode cX1_feed 29 = .ok (.iastore, 1) := dk_79 (dk_at dksX1_feed_1 5 rfl rfl)
theorem dX1_feed_30 : decode cX1_feed 30 = .ok (.dup, 1) := dk_89 (dk_at dksX1_feed_1 6 rfl rfl)
theorem dX1_feed_31 : decode cX1_feed 31 = .ok (.iconst 3, 1) := dk_6 (dk_at dksX1_feed_1 7 rfl rfl)
theorem dX1_feed_32 : decode cX1_feed 32 = .ok (.iload 4, 2) := dk_21 4 (dk_at dksX1_feed_1 8 rfl rfl)
theorem dX1_feed_34 : decode cX1_feed 34 = .ok (.iastore, 1) := dk_79 (dk_at dksX1_feed_1 10 rfl rfl)
theorem dX1_feed_35 : decode cX1_feed 35 = .ok (.dup, 1) := dk_89 (dk_at dksX1_feed_1 11 rfl rfl)
theorem dX1_feed_36 : decode cX1_feed 36 = .ok (.iconst 4, 1) := dk_7 (dk_at dksX1_feed_1 12 rfl rfl)
theorem dX1_feed_37 : decode cX1_feed 37 = .ok (.iload 5, 2) := dk_21 5 (dk_at dksX1_feed_1 13 rfl rfl)
theorem dX1_feed_39 : decode cX1_feed 39 = .ok (.iastore, 1) := dk_79 (dk_at dksX1_feed_1 15 rfl rfl)
theorem dX1_feed_40 : decode cX1_feed 40 = .ok (.astore 6, 2) := dk_58 6 (dk_at dksX1_feed_1 16 rfl rfl)
theorem dX1_feed_42 : decode cX1_feed 42 = .ok (.iconst 0, 1) := dk_3 (dk_at dksX1_feed_1 18 rfl rfl)
theorem dX1_feed_43 : decode cX1_feed 43 = .ok (.istore 7, 2) := dk_54 7 (dk_at dksX1_feed_1 19 rfl rfl)
theorem dX1_feed_45 : decode cX1_feed 45 = .ok (.iload 7, 2) := dk_21 7 (dk_at dksX1_feed_1 21 rfl rfl)
theorem dX1_feed_47 : decode cX1_feed 47 = .ok (.bipush 20, 2) := dk_16 20 (dk_at dksX1_feed_2 0 rfl rfl)
theorem dX1_feed_49 : decode cX1_feed 49 = .ok (.if_icmp .ge 44, 3) := dk_162 0 44 (dk_at dksX1_feed_2 2 rfl rfl)
theorem dX1_feed_52 : decode cX1_feed 52 = .ok (.aload_n 0, 1) := dk_42 (dk_at dksX1_feed_2 5 rfl rfl)
theorem dX1_feed_53 : decode cX1_feed 53 = .ok (.getfield 9, 3) := dk_180 0 9 (dk_at dksX1_feed_2 6 rfl rfl)
theorem dX1_feed_56 : decode cX1_feed 56 = .ok (.aload_n 0, 1) := dk_42 (dk_at dksX1_feed_2 9 rfl rfl)
theorem dX1_feed_57 : decode cX1_feed 57 = .ok (.dup, 1) := dk_89 (dk_at dksX1_feed_2 10 rfl rfl)
theorem dX1_feed_58 : decode cX1_feed 58 = .ok (.getfield 109, 3) := dk_180 0 109 (dk_at dksX1_feed_2 11 rfl rfl)
theorem dX1_feed_61 : decode cX1_feed 61 = .ok (.dup_x1, 1) := dk_90 (dk_at dksX1_feed_2 14 rfl rfl)
theorem dX1_feed_62 : decode cX1_feed 62 = .ok (.iconst 1, 1) := dk_4 (dk_at dksX1_feed_2 15 rfl rfl)
theorem dX1_feed_63 : decode cX1_feed 63 = .ok (.iadd, 1) := dk_96 (dk_at dksX1_feed_2 16 rfl rfl)
theorem dX1_feed_64 : decode cX1_feed 64 = .ok (.putfield 109, 3) := dk_181 0 109 (dk_at dksX1_feed_2 17 rfl rfl)
theorem dX1_feed_67 : decode cX1_feed 67 = .ok (.aload 6, 2) := dk_25 6 (dk_at dksX1_feed_2 20 rfl rfl)
theorem dX1_feed_69 : decode cX1_feed 69 = .ok (.iload 7, 2) := dk_21 7 (dk_at dksX1_feed_2 22 rfl rfl)
theorem dX1_feed_71 : decode cX1_feed 71 = .ok (.iconst 4, 1) := dk_7 (dk_at dksX1_feed_3 0 rfl rfl)
theorem dX1_feed_72 : decode cX1_feed 72 = .ok (.idiv, 1) := dk_108 (dk_at dksX1_feed_3 1 rfl rfl)
theorem dX1_feed_73 : decode cX1_feed 73 = .ok (.iaload, 1) := dk_46 (dk_at dksX1_feed_3 2 rfl rfl)
theorem dX1_feed_74 : decode cX1_feed 74 = .ok (.bipush 24, 2) := dk_16 24 (dk_at dksX1_feed_3 3 rfl rfl)
theorem dX1_feed_76 : decode cX1_feed 76 = .ok (.bipush 8, 2) := dk_16 8 (dk_at dksX1_feed_3 5 rfl rfl)
theorem dX1_feed_78 : decode cX1_feed 78 = .ok (.iload 7, 2) := dk_21 7 (dk_at dksX1_feed_3 7 rfl rfl)
theorem dX1_feed_80 : decode cX1_feed 80 = .ok (.iconst 4, 1) := dk_7 (dk_at dksX1_feed_3 9 rfl rfl)
theorem dX1_feed_81 : decode cX1_feed 81 = .ok (.irem, 1) := dk_112 (dk_at dksX1_feed_3 10 rfl rfl)
theorem dX1_feed_82 : decode cX1_feed 82 = .ok (.imul, 1) := dk_104 (dk_at dksX1_feed_3 11 rfl rfl)
theorem dX1_feed_83 : decode cX1_feed 83 = .ok (.isub, 1) := dk_100 (dk_at dksX1_feed_3 12 rfl rfl)
theorem dX1_feed_84 : decode cX1_feed 84 = .ok (.ishr, 1) := dk_122 (dk_at dksX1_feed_3 13 rfl rfl)
theorem dX1_feed_85 : decode cX1_feed 85 = .ok (.i2b, 1) := dk_145 (dk_at dksX1_feed_3 14 rfl rfl)
theorem dX1_feed_86 : decode cX1_feed 86 = .ok (.bastore, 1) := dk_84 (dk_at dksX1_feed_3 15 rfl rfl)
theorem dX1_feed_87 : decode cX1_feed 87 = .ok (.iinc 7 1, 3) := dk_132 7 1 (dk_at dksX1_feed_3 16 rfl rfl)
theorem dX1_feed_90 : decode cX1_feed 90 = .ok (.goto (-45), 3) := dk_167 255 211 (dk_at dksX1_feed_3 19 rfl rfl)
theorem dX1_feed_93 : decode cX1_feed 93 = .ok (.aload_n 0, 1) := dk_42 (dk_at dksX1_feed_3 22 rfl rfl)
theorem dX1_feed_94 : decode cX1_feed 94 = .ok (.getfield 109, 3) := dk_180 0 109 (dk_at dksX1_feed_4 0 rfl rfl)
theorem dX1_feed_97 : decode cX1_feed 97 = .ok (.ireturn, 1) := dk_172 (dk_at dksX1_feed_4 3 rfl rfl)
abbrev cX1_fault : ByteArray := prog_1_method_17_code
def yX1_fault : MethodName := ⟨RX1, "fault", "()I"⟩
theorem dX1_fault_0 : decode cX1_fault 0 = .ok (.aload_n 0, 1) := by decide +kernel
theorem dX1_fault_1 : decode cX1_fault 1 = .ok (.getfield 83, 3) := by decide +kernel
theorem dX1_fault_4 : decode cX1_fault 4 = .ok (.ireturn, 1) := by decide +kernel
abbrev cX1_span : ByteArray := prog_1_method_26_code
def yX1_span : MethodName := ⟨RX1, "span", "()I"⟩
def dkwX1_span_0 : List UInt8 := [42, 182, 1, 20, 180, 1, 36, 172]
abbrev dktX1_span_0 : List UInt8 := dkwX1_span_0 ++ []
theorem dksX1_span_0 : cX1_span.data.toList.drop 0 = dktX1_span_0 := by decide +kernel
theorem dX1_span_0 : decode cX1_span 0 = .ok (.aload_n 0, 1) := dk_42 (dk_at dksX1_span_0 0 rfl rfl)
theorem dX1_span_1 : decode cX1_span 1 = .ok (.invokevirtual 276, 3) := dk_182 1 20 (dk_at dksX1_span_0 1 rfl rfl)
theorem dX1_span_4 : decode cX1_span 4 = .ok (.getfield 292, 3) := dk_180 1 36 (dk_at dksX1_span_0 4 rfl rfl)
theorem dX1_span_7 : decode cX1_span 7 = .ok (.ireturn, 1) := dk_172 (dk_at dksX1_span_0 7 rfl rfl)
abbrev cX1_gone : ByteArray := prog_1_method_24_code
def yX1_gone : MethodName := ⟨RX1, "gone", "()LRainWheel$Watch;"⟩
def dkwX1_gone_0 : List UInt8 := [42, 180, 0, 51, 42, 180, 0, 79, 182, 1, 9, 42, 180, 0, 23, 182, 1, 13, 176]
abbrev dktX1_gone_0 : List UInt8 := dkwX1_gone_0 ++ []
theorem dksX1_gone_0 : cX1_gone.data.toList.drop 0 = dktX1_gone_0 := by decide +kernel
theorem dX1_gone_0 : decode cX1_gone 0 = .ok (.aload_n 0, 1) := dk_42 (dk_at dksX1_gone_0 0 rfl rfl)
theorem dX1_gone_1 : decode cX1_gone 1 = .ok (.getfield 51, 3) := dk_180 0 51 (dk_at dksX1_gone_0 1 rfl rfl)
theorem dX1_gone_4 : decode cX1_gone 4 = .ok (.aload_n 0, 1) := dk_42 (dk_at dksX1_gone_0 4 rfl rfl)
theorem dX1_gone_5 : decode cX1_gone 5 = .ok (.getfield 79, 3) := dk_180 0 79 (dk_at dksX1_gone_0 5 rfl rfl)
theorem dX1_gone_8 : decode cX1_gone 8 = .ok (.invokevirtual 265, 3) := dk_182 1 9 (dk_at dksX1_gone_0 8 rfl rfl)
theorem dX1_gone_11 : decode cX1_gone 11 = .ok (.aload_n 0, 1) := dk_42 (dk_at dksX1_gone_0 11 rfl rfl)
theorem dX1_gone_12 : decode cX1_gone 12 = .ok (.getfield 23, 3) := dk_180 0 23 (dk_at dksX1_gone_0 12 rfl rfl)
theorem dX1_gone_15 : decode cX1_gone 15 = .ok (.invokevirtual 269, 3) := dk_182 1 13 (dk_at dksX1_gone_0 15 rfl rfl)
theorem dX1_gone_18 : decode cX1_gone 18 = .ok (.areturn, 1) := dk_176 (dk_at dksX1_gone_0 18 rfl rfl)
abbrev cX1_umbrella : ByteArray := prog_1_method_29_code
def yX1_umbrella : MethodName := ⟨RX1, "umbrella", "()I"⟩
def dkwX1_umbrella_2 : List UInt8 := [164, 0, 5, 28, 60, 132, 2, 1, 167, 255, 210, 27, 172]
abbrev dktX1_umbrella_2 : List UInt8 := dkwX1_umbrella_2 ++ []
def dkwX1_umbrella_1 : List UInt8 := [180, 1, 39, 28, 46, 27, 2, 160, 0, 7, 3, 167, 0, 12, 42, 180, 0, 51, 180, 1, 39, 27, 46]
abbrev dktX1_umbrella_1 : List UInt8 := dkwX1_umbrella_1 ++ dktX1_umbrella_2
def dkwX1_umbrella_0 : List UInt8 := [42, 182, 1, 20, 87, 2, 60, 3, 61, 28, 42, 180, 0, 79, 180, 0, 97, 162, 0, 41, 42, 180, 0, 51]
abbrev dktX1_umbrella_0 : List UInt8 := dkwX1_umbrella_0 ++ dktX1_umbrella_1
theorem dksX1_umbrella_0 : cX1_umbrella.data.toList.drop 0 = dktX1_umbrella_0 := by decide +kernel
theorem dksX1_umbrella_1 : cX1_umbrella.data.toList.drop 24 = dktX1_umbrella_1 := dk_seg dksX1_umbrella_0 24 rfl rfl
theorem dksX1_umbrella_2 : cX1_umbrella.data.toList.drop 47 = dktX1_umbrella_2 := dk_seg dksX1_umbrella_1 23 rfl rfl
theorem dX1_umbrella_0 : decode cX1_umbrella 0 = .ok (.aload_n 0, 1) := dk_42 (dk_at dksX1_umbrella_0 0 rfl rfl)
theorem dX1_umbrella_1 : decode cX1_umbrella 1 = .ok (.invokevirtual 276, 3) := dk_182 1 20 (dk_at dksX1_umbrella_0 1 rfl rfl)
theorem dX1_umbrella_4 : decode cX1_umbrella 4 = .ok (.pop, 1) := dk_87 (dk_at dksX1_umbrella_0 4 rfl rfl)
theorem dX1_umbrella_5 : decode cX1_umbrella 5 = .ok (.iconst (-1), 1) := dk_2 (dk_at dksX1_umbrella_0 5 rfl rfl)
theorem dX1_umbrella_6 : decode cX1_umbrella 6 = .ok (.istore_n 1, 1) := dk_60 (dk_at dksX1_umbrella_0 6 rfl rfl)
theorem dX1_umbrella_7 : decode cX1_umbrella 7 = .ok (.iconst 0, 1) := dk_3 (dk_at dksX1_umbrella_0 7 rfl rfl)
theorem dX1_umbrella_8 : decode cX1_umbrella 8 = .ok (.istore_n 2, 1) := dk_61 (dk_at dksX1_umbrella_0 8 rfl rfl)
theorem dX1_umbrella_9 : decode cX1_umbrella 9 = .ok (.iload_n 2, 1) := dk_28 (dk_at dksX1_umbrella_0 9 rfl rfl)
theorem dX1_umbrella_10 : decode cX1_umbrella 10 = .ok (.aload_n 0, 1) := dk_42 (dk_at dksX1_umbrella_0 10 rfl rfl)
theorem dX1_umbrella_11 : decode cX1_umbrella 11 = .ok (.getfield 79, 3) := dk_180 0 79 (dk_at dksX1_umbrella_0 11 rfl rfl)
theorem dX1_umbrella_14 : decode cX1_umbrella 14 = .ok (.getfield 97, 3) := dk_180 0 97 (dk_at dksX1_umbrella_0 14 rfl rfl)
theorem dX1_umbrella_17 : decode cX1_umbrella 17 = .ok (.if_icmp .ge 41, 3) := dk_162 0 41 (dk_at dksX1_umbrella_0 17 rfl rfl)
theorem dX1_umbrella_20 : decode cX1_umbrella 20 = .ok (.aload_n 0, 1) := dk_42 (dk_at dksX1_umbrella_0 20 rfl rfl)
theorem dX1_umbrella_21 : decode cX1_umbrella 21 = .ok (.getfield 51, 3) := dk_180 0 51 (dk_at dksX1_umbrella_0 21 rfl rfl)
theorem dX1_umbrella_24 : decode cX1_umbrella 24 = .ok (.getfield 295, 3) := dk_180 1 39 (dk_at dksX1_umbrella_1 0 rfl rfl)
theorem dX1_umbrella_27 : decode cX1_umbrella 27 = .ok (.iload_n 2, 1) := dk_28 (dk_at dksX1_umbrella_1 3 rfl rfl)
theorem dX1_umbrella_28 : decode cX1_umbrella 28 = .ok (.iaload, 1) := dk_46 (dk_at dksX1_umbrella_1 4 rfl rfl)
theorem dX1_umbrella_29 : decode cX1_umbrella 29 = .ok (.iload_n 1, 1) := dk_27 (dk_at dksX1_umbrella_1 5 rfl rfl)
theorem dX1_umbrella_30 : decode cX1_umbrella 30 = .ok (.iconst (-1), 1) := dk_2 (dk_at dksX1_umbrella_1 6 rfl rfl)
theorem dX1_umbrella_31 : decode cX1_umbrella 31 = .ok (.if_icmp .ne 7, 3) := dk_160 0 7 (dk_at dksX1_umbrella_1 7 rfl rfl)
theorem dX1_umbrella_34 : decode cX1_umbrella 34 = .ok (.iconst 0, 1) := dk_3 (dk_at dksX1_umbrella_1 10 rfl rfl)
theorem dX1_umbrella_35 : decode cX1_umbrella 35 = .ok (.goto 12, 3) := dk_167 0 12 (dk_at dksX1_umbrella_1 11 rfl rfl)
theorem dX1_umbrella_38 : decode cX1_umbrella 38 = .ok (.aload_n 0, 1) := dk_42 (dk_at dksX1_umbrella_1 14 rfl rfl)
theorem dX1_umbrella_39 : decode cX1_umbrella 39 = .ok (.getfield 51, 3) := dk_180 0 51 (dk_at dksX1_umbrella_1 15 rfl rfl)
theorem dX1_umbrella_42 : decode cX1_umbrella 42 = .ok (.getfield 295, 3) := dk_180 1 39 (dk_at dksX1_umbrella_1 18 rfl rfl)
theorem dX1_umbrella_45 : decode cX1_umbrella 45 = .ok (.iload_n 1, 1) := dk_27 (dk_at dksX1_umbrella_1 21 rfl rfl)
theorem dX1_umbrella_46 : decode cX1_umbrella 46 = .ok (.iaload, 1) := dk_46 (dk_at dksX1_umbrella_1 22 rfl rfl)
theorem dX1_umbrella_47 : decode cX1_umbrella 47 = .ok (.if_icmp .le 5, 3) := dk_164 0 5 (dk_at dksX1_umbrella_2 0 rfl rfl)
theorem dX1_umbrella_50 : decode cX1_umbrella 50 = .ok (.iload_n 2, 1) := dk_28 (dk_at dksX1_umbrella_2 3 rfl rfl)
theorem dX1_umbrella_51 : decode cX1_umbrella 51 = .ok (.istore_n 1, 1) := dk_60 (dk_at dksX1_umbrella_2 4 rfl rfl)
theorem dX1_umbrella_52 : decode cX1_umbrella 52 = .ok (.iinc 2 1, 3) := dk_132 2 1 (dk_at dksX1_umbrella_2 5 rfl rfl)
theorem dX1_umbrella_55 : decode cX1_umbrella 55 = .ok (.goto (-46), 3) := dk_167 255 210 (dk_at dksX1_umbrella_2 8 rfl rfl)
theorem dX1_umbrella_58 : decode cX1_umbrella 58 = .ok (.iload_n 1, 1) := dk_27 (dk_at dksX1_umbrella_2 11 rfl rfl)
theorem dX1_umbrella_59 : decode cX1_umbrella 59 = .ok (.ireturn, 1) := dk_172 (dk_at dksX1_umbrella_2 12 rfl rfl)
abbrev cX1_urgent : ByteArray := prog_1_method_32_code
def yX1_urgent : MethodName := ⟨RX1, "urgent", "()I"⟩
def dkwX1_urgent_1 : List UInt8 := [4, 28, 120, 128, 60, 132, 2, 1, 167, 255, 228, 27, 172]
abbrev dktX1_urgent_1 : List UInt8 := dkwX1_urgent_1 ++ []
def dkwX1_urgent_0 : List UInt8 := [3, 60, 3, 61, 28, 42, 180, 0, 79, 180, 0, 90, 162, 0, 23, 42, 28, 182, 1, 52, 154, 0, 9, 27]
abbrev dktX1_urgent_0 : List UInt8 := dkwX1_urgent_0 ++ dktX1_urgent_1
theorem dksX1_urgent_0 : cX1_urgent.data.toList.drop 0 = dktX1_urgent_0 := by decide +kernel
theorem dksX1_urgent_1 : cX1_urgent.data.toList.drop 24 = dktX1_urgent_1 := dk_seg dksX1_urgent_0 24 rfl rfl
theorem dX1_urgent_0 : decode cX1_urgent 0 = .ok (.iconst 0, 1) := dk_3 (dk_at dksX1_urgent_0 0 rfl rfl)
theorem dX1_urgent_1 : decode cX1_urgent 1 = .ok (.istore_n 1, 1) := dk_60 (dk_at dksX1_urgent_0 1 rfl rfl)
theorem dX1_urgent_2 : decode cX1_urgent 2 = .ok (.iconst 0, 1) := dk_3 (dk_at dksX1_urgent_0 2 rfl rfl)
theorem dX1_urgent_3 : decode cX1_urgent 3 = .ok (.istore_n 2, 1) := dk_61 (dk_at dksX1_urgent_0 3 rfl rfl)
theorem dX1_urgent_4 : decode cX1_urgent 4 = .ok (.iload_n 2, 1) := dk_28 (dk_at dksX1_urgent_0 4 rfl rfl)
theorem dX1_urgent_5 : decode cX1_urgent 5 = .ok (.aload_n 0, 1) := dk_42 (dk_at dksX1_urgent_0 5 rfl rfl)
theorem dX1_urgent_6 : decode cX1_urgent 6 = .ok (.getfield 79, 3) := dk_180 0 79 (dk_at dksX1_urgent_0 6 rfl rfl)
theorem dX1_urgent_9 : decode cX1_urgent 9 = .ok (.getfield 90, 3) := dk_180 0 90 (dk_at dksX1_urgent_0 9 rfl rfl)
theorem dX1_urgent_12 : decode cX1_urgent 12 = .ok (.if_icmp .ge 23, 3) := dk_162 0 23 (dk_at dksX1_urgent_0 12 rfl rfl)
theorem dX1_urgent_15 : decode cX1_urgent 15 = .ok (.aload_n 0, 1) := dk_42 (dk_at dksX1_urgent_0 15 rfl rfl)
theorem dX1_urgent_16 : decode cX1_urgent 16 = .ok (.iload_n 2, 1) := dk_28 (dk_at dksX1_urgent_0 16 rfl rfl)
theorem dX1_urgent_17 : decode cX1_urgent 17 = .ok (.invokevirtual 308, 3) := dk_182 1 52 (dk_at dksX1_urgent_0 17 rfl rfl)
theorem dX1_urgent_20 : decode cX1_urgent 20 = .ok (.ifCond .ne 9, 3) := dk_154 0 9 (dk_at dksX1_urgent_0 20 rfl rfl)
theorem dX1_urgent_23 : decode cX1_urgent 23 = .ok (.iload_n 1, 1) := dk_27 (dk_at dksX1_urgent_0 23 rfl rfl)
theorem dX1_urgent_24 : decode cX1_urgent 24 = .ok (.iconst 1, 1) := dk_4 (dk_at dksX1_urgent_1 0 rfl rfl)
theorem dX1_urgent_25 : decode cX1_urgent 25 = .ok (.iload_n 2, 1) := dk_28 (dk_at dksX1_urgent_1 1 rfl rfl)
theorem dX1_urgent_26 : decode cX1_urgent 26 = .ok (.ishl, 1) := dk_120 (dk_at dksX1_urgent_1 2 rfl rfl)
theorem dX1_urgent_27 : decode cX1_urgent 27 = .ok (.ior, 1) := dk_128 (dk_at dksX1_urgent_1 3 rfl rfl)
theorem dX1_urgent_28 : decode cX1_urgent 28 = .ok (.istore_n 1, 1) := dk_60 (dk_at dksX1_urgent_1 4 rfl rfl)
theorem dX1_urgent_29 : decode cX1_urgent 29 = .ok (.iinc 2 1, 3) := dk_132 2 1 (dk_at dksX1_urgent_1 5 rfl rfl)
theorem dX1_urgent_32 : decode cX1_urgent 32 = .ok (.goto (-28), 3) := dk_167 255 228 (dk_at dksX1_urgent_1 8 rfl rfl)
theorem dX1_urgent_35 : decode cX1_urgent 35 = .ok (.iload_n 1, 1) := dk_27 (dk_at dksX1_urgent_1 11 rfl rfl)
theorem dX1_urgent_36 : decode cX1_urgent 36 = .ok (.ireturn, 1) := dk_172 (dk_at dksX1_urgent_1 12 rfl rfl)
abbrev cX1_slackOf : ByteArray := prog_1_method_30_code
def yX1_slackOf : MethodName := ⟨RX1, "slackOf", "(I)I"⟩
def dkwX1_slackOf_3 : List UInt8 := [182, 1, 13, 180, 1, 36, 29, 163, 0, 9, 132, 4, 1, 167, 255, 213, 21, 4, 172]
abbrev dktX1_slackOf_3 : List UInt8 := dkwX1_slackOf_3 ++ []
def dkwX1_slackOf_2 : List UInt8 := [42, 180, 0, 51, 42, 180, 0, 79, 182, 1, 9, 27, 21, 4, 4, 96, 182, 1, 48, 42, 180, 0, 23]
abbrev dktX1_slackOf_2 : List UInt8 := dkwX1_slackOf_2 ++ dktX1_slackOf_3
def dkwX1_slackOf_1 : List UInt8 := [180, 0, 51, 180, 1, 30, 28, 46, 2, 160, 0, 5, 2, 172, 3, 54, 4, 21, 4, 16, 99, 162, 0, 42]
abbrev dktX1_slackOf_1 : List UInt8 := dkwX1_slackOf_1 ++ dktX1_slackOf_2
def dkwX1_slackOf_0 : List UInt8 := [42, 180, 0, 23, 27, 182, 1, 45, 61, 42, 182, 1, 20, 180, 1, 36, 62, 28, 2, 159, 0, 16, 42]
abbrev dktX1_slackOf_0 : List UInt8 := dkwX1_slackOf_0 ++ dktX1_slackOf_1
theorem dksX1_slackOf_0 : cX1_slackOf.data.toList.drop 0 = dktX1_slackOf_0 := by decide +kernel
theorem dksX1_slackOf_1 : cX1_slackOf.data.toList.drop 23 = dktX1_slackOf_1 := dk_seg dksX1_slackOf_0 23 rfl rfl
theorem dksX1_slackOf_2 : cX1_slackOf.data.toList.drop 47 = dktX1_slackOf_2 := dk_seg dksX1_slackOf_1 24 rfl rfl
theorem dksX1_slackOf_3 : cX1_slackOf.data.toList.drop 70 = dktX1_slackOf_3 := dk_seg dksX1_slackOf_2 23 rfl rfl
theorem dX1_slackOf_0 : decode cX1_slackOf 0 = .ok (.aload_n 0, 1) := dk_42 (dk_at dksX1_slackOf_0 0 rfl rfl)
theorem dX1_slackOf_1 : decode cX1_slackOf 1 = .ok (.getfield 23, 3) := dk_180 0 23 (dk_at dksX1_slackOf_0 1 rfl rfl)
theorem dX1_slackOf_4 : decode cX1_slackOf 4 = .ok (.iload_n 1, 1) := dk_27 (dk_at dksX1_slackOf_0 4 rfl rfl)
theorem dX1_slackOf_5 : decode cX1_slackOf 5 = .ok (.invokevirtual 301, 3) := dk_182 1 45 (dk_at dksX1_slackOf_0 5 rfl rfl)
theorem dX1_slackOf_8 : decode cX1_slackOf 8 = .ok (.istore_n 2, 1) := dk_61 (dk_at dksX1_slackOf_0 8 rfl rfl)
theorem dX1_slackOf_9 : decode cX1_slackOf 9 = .ok (.aload_n 0, 1) := dk_42 (dk_at dksX1_slackOf_0 9 rfl rfl)
theorem dX1_slackOf_10 : decode cX1_slackOf 10 = .ok (.invokevirtual 276, 3) := dk_182 1 20 (dk_at dksX1_slackOf_0 10 rfl rfl)
theorem dX1_slackOf_13 : decode cX1_slackOf 13 = .ok (.getfield 292, 3) := dk_180 1 36 (dk_at dksX1_slackOf_0 13 rfl rfl)
theorem dX1_slackOf_16 : decode cX1_slackOf 16 = .ok (.istore_n 3, 1) := dk_62 (dk_at dksX1_slackOf_0 16 rfl rfl)
theorem dX1_slackOf_17 : decode cX1_slackOf 17 = .ok (.iload_n 2, 1) := dk_28 (dk_at dksX1_slackOf_0 17 rfl rfl)
theorem dX1_slackOf_18 : decode cX1_slackOf 18 = .ok (.iconst (-1), 1) := dk_2 (dk_at dksX1_slackOf_0 18 rfl rfl)
theorem dX1_slackOf_19 : decode cX1_slackOf 19 = .ok (.if_icmp .eq 16, 3) := dk_159 0 16 (dk_at dksX1_slackOf_0 19 rfl rfl)
theorem dX1_slackOf_22 : decode cX1_slackOf 22 = .ok (.aload_n 0, 1) := dk_42 (dk_at dksX1_slackOf_0 22 rfl rfl)
theorem dX1_slackOf_23 : decode cX1_slackOf 23 = .ok (.getfield 51, 3) := dk_180 0 51 (dk_at dksX1_slackOf_1 0 rfl rfl)
theorem dX1_slackOf_26 : decode cX1_slackOf 26 = .ok (.getfield 286, 3) := dk_180 1 30 (dk_at dksX1_slackOf_1 3 rfl rfl)
theorem dX1_slackOf_29 : decode cX1_slackOf 29 = .ok (.iload_n 2, 1) := dk_28 (dk_at dksX1_slackOf_1 6 rfl rfl)
theorem dX1_slackOf_30 : decode cX1_slackOf 30 = .ok (.iaload, 1) := dk_46 (dk_at dksX1_slackOf_1 7 rfl rfl)
theorem dX1_slackOf_31 : decode cX1_slackOf 31 = .ok (.iconst (-1), 1) := dk_2 (dk_at dksX1_slackOf_1 8 rfl rfl)
theorem dX1_slackOf_32 : decode cX1_slackOf 32 = .ok (.if_icmp .ne 5, 3) := dk_160 0 5 (dk_at dksX1_slackOf_1 9 rfl rfl)
theorem dX1_slackOf_35 : decode cX1_slackOf 35 = .ok (.iconst (-1), 1) := dk_2 (dk_at dksX1_slackOf_1 12 rfl rfl)
theorem dX1_slackOf_36 : decode cX1_slackOf 36 = .ok (.ireturn, 1) := dk_172 (dk_at dksX1_slackOf_1 13 rfl rfl)
theorem dX1_slackOf_37 : decode cX1_slackOf 37 = .ok (.iconst 0, 1) := dk_3 (dk_at dksX1_slackOf_1 14 rfl rfl)
theorem dX1_slackOf_38 : decode cX1_slackOf 38 = .ok (.istore 4, 2) := dk_54 4 (dk_at dksX1_slackOf_1 15 rfl rfl)
theorem dX1_slackOf_40 : decode cX1_slackOf 40 = .ok (.iload 4, 2) := dk_21 4 (dk_at dksX1_slackOf_1 17 rfl rfl)
theorem dX1_slackOf_42 : decode cX1_slackOf 42 = .ok (.bipush 99, 2) := dk_16 99 (dk_at dksX1_slackOf_1 19 rfl rfl)
theorem dX1_slackOf_44 : decode cX1_slackOf 44 = .ok (.if_icmp .ge 42, 3) := dk_162 0 42 (dk_at dksX1_slackOf_1 21 rfl rfl)
theorem dX1_slackOf_47 : decode cX1_slackOf 47 = .ok (.aload_n 0, 1) := dk_42 (dk_at dksX1_slackOf_2 0 rfl rfl)
theorem dX1_slackOf_48 : decode cX1_slackOf 48 = .ok (.getfield 51, 3) := dk_180 0 51 (dk_at dksX1_slackOf_2 1 rfl rfl)
theorem dX1_slackOf_51 : decode cX1_slackOf 51 = .ok (.aload_n 0, 1) := dk_42 (dk_at dksX1_slackOf_2 4 rfl rfl)
theorem dX1_slackOf_52 : decode cX1_slackOf 52 = .ok (.getfield 79, 3) := dk_180 0 79 (dk_at dksX1_slackOf_2 5 rfl rfl)
theorem dX1_slackOf_55 : decode cX1_slackOf 55 = .ok (.invokevirtual 265, 3) := dk_182 1 9 (dk_at dksX1_slackOf_2 8 rfl rfl)
theorem dX1_slackOf_58 : decode cX1_slackOf 58 = .ok (.iload_n 1, 1) := dk_27 (dk_at dksX1_slackOf_2 11 rfl rfl)
theorem dX1_slackOf_59 : decode cX1_slackOf 59 = .ok (.iload 4, 2) := dk_21 4 (dk_at dksX1_slackOf_2 12 rfl rfl)
theorem dX1_slackOf_61 : decode cX1_slackOf 61 = .ok (.iconst 1, 1) := dk_4 (dk_at dksX1_slackOf_2 14 rfl rfl)
theorem dX1_slackOf_62 : decode cX1_slackOf 62 = .ok (.iadd, 1) := dk_96 (dk_at dksX1_slackOf_2 15 rfl rfl)
theorem dX1_slackOf_63 : decode cX1_slackOf 63 = .ok (.invokevirtual 304, 3) := dk_182 1 48 (dk_at dksX1_slackOf_2 16 rfl rfl)
theorem dX1_slackOf_66 : decode cX1_slackOf 66 = .ok (.aload_n 0, 1) := dk_42 (dk_at dksX1_slackOf_2 19 rfl rfl)
theorem dX1_slackOf_67 : decode cX1_slackOf 67 = .ok (.getfield 23, 3) := dk_180 0 23 (dk_at dksX1_slackOf_2 20 rfl rfl)
theorem dX1_slackOf_70 : decode cX1_slackOf 70 = .ok (.invokevirtual 269, 3) := dk_182 1 13 (dk_at dksX1_slackOf_3 0 rfl rfl)
theorem dX1_slackOf_73 : decode cX1_slackOf 73 = .ok (.getfield 292, 3) := dk_180 1 36 (dk_at dksX1_slackOf_3 3 rfl rfl)
theorem dX1_slackOf_76 : decode cX1_slackOf 76 = .ok (.iload_n 3, 1) := dk_29 (dk_at dksX1_slackOf_3 6 rfl rfl)
theorem dX1_slackOf_77 : decode cX1_slackOf 77 = .ok (.if_icmp .gt 9, 3) := dk_163 0 9 (dk_at dksX1_slackOf_3 7 rfl rfl)
theorem dX1_slackOf_80 : decode cX1_slackOf 80 = .ok (.iinc 4 1, 3) := dk_132 4 1 (dk_at dksX1_slackOf_3 10 rfl rfl)
theorem dX1_slackOf_83 : decode cX1_slackOf 83 = .ok (.goto (-43), 3) := dk_167 255 213 (dk_at dksX1_slackOf_3 13 rfl rfl)
theorem dX1_slackOf_86 : decode cX1_slackOf 86 = .ok (.iload 4, 2) := dk_21 4 (dk_at dksX1_slackOf_3 16 rfl rfl)
theorem dX1_slackOf_88 : decode cX1_slackOf 88 = .ok (.ireturn, 1) := dk_172 (dk_at dksX1_slackOf_3 18 rfl rfl)
abbrev cX1_likeliest : ByteArray := prog_1_method_57_code
def yX1_likeliest : MethodName := ⟨RX1, "likeliest", "()I"⟩
def dkwX1_likeliest_2 : List UInt8 := [167, 255, 214, 27, 172]
abbrev dktX1_likeliest_2 : List UInt8 := dkwX1_likeliest_2 ++ []
def dkwX1_likeliest_1 : List UInt8 := [160, 0, 7, 3, 167, 0, 10, 42, 27, 2, 2, 182, 1, 151, 164, 0, 5, 28, 60, 132, 2, 1]
abbrev dktX1_likeliest_1 : List UInt8 := dkwX1_likeliest_1 ++ dktX1_likeliest_2
def dkwX1_likeliest_0 : List UInt8 := [2, 60, 3, 61, 28, 42, 180, 0, 79, 180, 0, 203, 162, 0, 37, 42, 28, 2, 2, 182, 1, 151, 27, 2]
abbrev dktX1_likeliest_0 : List UInt8 := dkwX1_likeliest_0 ++ dktX1_likeliest_1
theorem dksX1_likeliest_0 : cX1_likeliest.data.toList.drop 0 = dktX1_likeliest_0 := by decide +kernel
theorem dksX1_likeliest_1 : cX1_likeliest.data.toList.drop 24 = dktX1_likeliest_1 := dk_seg dksX1_likeliest_0 24 rfl rfl
theorem dksX1_likeliest_2 : cX1_likeliest.data.toList.drop 46 = dktX1_likeliest_2 := dk_seg dksX1_likeliest_1 22 rfl rfl
theorem dX1_likeliest_0 : decode cX1_likeliest 0 = .ok (.iconst (-1), 1) := dk_2 (dk_at dksX1_likeliest_0 0 rfl rfl)
theorem dX1_likeliest_1 : decode cX1_likeliest 1 = .ok (.istore_n 1, 1) := dk_60 (dk_at dksX1_likeliest_0 1 rfl rfl)
theorem dX1_likeliest_2 : decode cX1_likeliest 2 = .ok (.iconst 0, 1) := dk_3 (dk_at dksX1_likeliest_0 2 rfl rfl)
theorem dX1_likeliest_3 : decode cX1_likeliest 3 = .ok (.istore_n 2, 1) := dk_61 (dk_at dksX1_likeliest_0 3 rfl rfl)
theorem dX1_likeliest_4 : decode cX1_likeliest 4 = .ok (.iload_n 2, 1) := dk_28 (dk_at dksX1_likeliest_0 4 rfl rfl)
theorem dX1_likeliest_5 : decode cX1_likeliest 5 = .ok (.aload_n 0, 1) := dk_42 (dk_at dksX1_likeliest_0 5 rfl rfl)
theorem dX1_likeliest_6 : decode cX1_likeliest 6 = .ok (.getfield 79, 3) := dk_180 0 79 (dk_at dksX1_likeliest_0 6 rfl rfl)
theorem dX1_likeliest_9 : decode cX1_likeliest 9 = .ok (.getfield 203, 3) := dk_180 0 203 (dk_at dksX1_likeliest_0 9 rfl rfl)
theorem dX1_likeliest_12 : decode cX1_likeliest 12 = .ok (.if_icmp .ge 37, 3) := dk_162 0 37 (dk_at dksX1_likeliest_0 12 rfl rfl)
theorem dX1_likeliest_15 : decode cX1_likeliest 15 = .ok (.aload_n 0, 1) := dk_42 (dk_at dksX1_likeliest_0 15 rfl rfl)
theorem dX1_likeliest_16 : decode cX1_likeliest 16 = .ok (.iload_n 2, 1) := dk_28 (dk_at dksX1_likeliest_0 16 rfl rfl)
theorem dX1_likeliest_17 : decode cX1_likeliest 17 = .ok (.iconst (-1), 1) := dk_2 (dk_at dksX1_likeliest_0 17 rfl rfl)
theorem dX1_likeliest_18 : decode cX1_likeliest 18 = .ok (.iconst (-1), 1) := dk_2 (dk_at dksX1_likeliest_0 18 rfl rfl)
theorem dX1_likeliest_19 : decode cX1_likeliest 19 = .ok (.invokevirtual 407, 3) := dk_182 1 151 (dk_at dksX1_likeliest_0 19 rfl rfl)
theorem dX1_likeliest_22 : decode cX1_likeliest 22 = .ok (.iload_n 1, 1) := dk_27 (dk_at dksX1_likeliest_0 22 rfl rfl)
theorem dX1_likeliest_23 : decode cX1_likeliest 23 = .ok (.iconst (-1), 1) := dk_2 (dk_at dksX1_likeliest_0 23 rfl rfl)
theorem dX1_likeliest_24 : decode cX1_likeliest 24 = .ok (.if_icmp .ne 7, 3) := dk_160 0 7 (dk_at dksX1_likeliest_1 0 rfl rfl)
theorem dX1_likeliest_27 : decode cX1_likeliest 27 = .ok (.iconst 0, 1) := dk_3 (dk_at dksX1_likeliest_1 3 rfl rfl)
theorem dX1_likeliest_28 : decode cX1_likeliest 28 = .ok (.goto 10, 3) := dk_167 0 10 (dk_at dksX1_likeliest_1 4 rfl rfl)
theorem dX1_likeliest_31 : decode cX1_likeliest 31 = .ok (.aload_n 0, 1) := dk_42 (dk_at dksX1_likeliest_1 7 rfl rfl)
theorem dX1_likeliest_32 : decode cX1_likeliest 32 = .ok (.iload_n 1, 1) := dk_27 (dk_at dksX1_likeliest_1 8 rfl rfl)
theorem dX1_likeliest_33 : decode cX1_likeliest 33 = .ok (.iconst (-1), 1) := dk_2 (dk_at dksX1_likeliest_1 9 rfl rfl)
theorem dX1_likeliest_34 : decode cX1_likeliest 34 = .ok (.iconst (-1), 1) := dk_2 (dk_at dksX1_likeliest_1 10 rfl rfl)
theorem dX1_likeliest_35 : decode cX1_likeliest 35 = .ok (.invokevirtual 407, 3) := dk_182 1 151 (dk_at dksX1_likeliest_1 11 rfl rfl)
theorem dX1_likeliest_38 : decode cX1_likeliest 38 = .ok (.if_icmp .le 5, 3) := dk_164 0 5 (dk_at dksX1_likeliest_1 14 rfl rfl)
theorem dX1_likeliest_41 : decode cX1_likeliest 41 = .ok (.iload_n 2, 1) := dk_28 (dk_at dksX1_likeliest_1 17 rfl rfl)
theorem dX1_likeliest_42 : decode cX1_likeliest 42 = .ok (.istore_n 1, 1) := dk_60 (dk_at dksX1_likeliest_1 18 rfl rfl)
theorem dX1_likeliest_43 : decode cX1_likeliest 43 = .ok (.iinc 2 1, 3) := dk_132 2 1 (dk_at dksX1_likeliest_1 19 rfl rfl)
theorem dX1_likeliest_46 : decode cX1_likeliest 46 = .ok (.goto (-42), 3) := dk_167 255 214 (dk_at dksX1_likeliest_2 0 rfl rfl)
theorem dX1_likeliest_49 : decode cX1_likeliest 49 = .ok (.iload_n 1, 1) := dk_27 (dk_at dksX1_likeliest_2 3 rfl rfl)
theorem dX1_likeliest_50 : decode cX1_likeliest 50 = .ok (.ireturn, 1) := dk_172 (dk_at dksX1_likeliest_2 4 rfl rfl)
abbrev cX1_weight : ByteArray := prog_1_method_55_code
def yX1_weight : MethodName := ⟨RX1, "weight", "(III)I"⟩
def dkwX1_weight_3 : List UInt8 := [180, 0, 79, 180, 1, 147, 27, 50, 21, 5, 46, 100, 104, 54, 4, 132, 5, 1, 167, 255, 181, 21, 4, 172]
abbrev dktX1_weight_3 : List UInt8 := dkwX1_weight_3 ++ []
def dkwX1_weight_2 : List UInt8 := [21, 6, 4, 160, 0, 18, 42, 180, 0, 79, 180, 1, 147, 27, 50, 21, 5, 46, 167, 0, 18, 16, 16, 42]
abbrev dktX1_weight_2 : List UInt8 := dkwX1_weight_2 ++ dktX1_weight_3
def dkwX1_weight_1 : List UInt8 := [160, 0, 7, 29, 167, 0, 10, 42, 180, 0, 43, 21, 5, 46, 54, 6, 21, 6, 2, 159, 0, 44, 21, 4]
abbrev dktX1_weight_1 : List UInt8 := dkwX1_weight_1 ++ dktX1_weight_2
def dkwX1_weight_0 : List UInt8 := [42, 180, 0, 79, 180, 1, 144, 27, 46, 54, 4, 3, 54, 5, 21, 5, 6, 162, 0, 75, 21, 5, 28]
abbrev dktX1_weight_0 : List UInt8 := dkwX1_weight_0 ++ dktX1_weight_1
theorem dksX1_weight_0 : cX1_weight.data.toList.drop 0 = dktX1_weight_0 := by decide +kernel
theorem dksX1_weight_1 : cX1_weight.data.toList.drop 23 = dktX1_weight_1 := dk_seg dksX1_weight_0 23 rfl rfl
theorem dksX1_weight_2 : cX1_weight.data.toList.drop 47 = dktX1_weight_2 := dk_seg dksX1_weight_1 24 rfl rfl
theorem dksX1_weight_3 : cX1_weight.data.toList.drop 71 = dktX1_weight_3 := dk_seg dksX1_weight_2 24 rfl rfl
theorem dX1_weight_0 : decode cX1_weight 0 = .ok (.aload_n 0, 1) := dk_42 (dk_at dksX1_weight_0 0 rfl rfl)
theorem dX1_weight_1 : decode cX1_weight 1 = .ok (.getfield 79, 3) := dk_180 0 79 (dk_at dksX1_weight_0 1 rfl rfl)
theorem dX1_weight_4 : decode cX1_weight 4 = .ok (.getfield 400, 3) := dk_180 1 144 (dk_at dksX1_weight_0 4 rfl rfl)
theorem dX1_weight_7 : decode cX1_weight 7 = .ok (.iload_n 1, 1) := dk_27 (dk_at dksX1_weight_0 7 rfl rfl)
theorem dX1_weight_8 : decode cX1_weight 8 = .ok (.iaload, 1) := dk_46 (dk_at dksX1_weight_0 8 rfl rfl)
theorem dX1_weight_9 : decode cX1_weight 9 = .ok (.istore 4, 2) := dk_54 4 (dk_at dksX1_weight_0 9 rfl rfl)
theorem dX1_weight_11 : decode cX1_weight 11 = .ok (.iconst 0, 1) := dk_3 (dk_at dksX1_weight_0 11 rfl rfl)
theorem dX1_weight_12 : decode cX1_weight 12 = .ok (.istore 5, 2) := dk_54 5 (dk_at dksX1_weight_0 12 rfl rfl)
theorem dX1_weight_14 : decode cX1_weight 14 = .ok (.iload 5, 2) := dk_21 5 (dk_at dksX1_weight_0 14 rfl rfl)
theorem dX1_weight_16 : decode cX1_weight 16 = .ok (.iconst 3, 1) := dk_6 (dk_at dksX1_weight_0 16 rfl rfl)
theorem dX1_weight_17 : decode cX1_weight 17 = .ok (.if_icmp .ge 75, 3) := dk_162 0 75 (dk_at dksX1_weight_0 17 rfl rfl)
theorem dX1_weight_20 : decode cX1_weight 20 = .ok (.iload 5, 2) := dk_21 5 (dk_at dksX1_weight_0 20 rfl rfl)
theorem dX1_weight_22 : decode cX1_weight 22 = .ok (.iload_n 2, 1) := dk_28 (dk_at dksX1_weight_0 22 rfl rfl)
theorem dX1_weight_23 : decode cX1_weight 23 = .ok (.if_icmp .ne 7, 3) := dk_160 0 7 (dk_at dksX1_weight_1 0 rfl rfl)
theorem dX1_weight_26 : decode cX1_weight 26 = .ok (.iload_n 3, 1) := dk_29 (dk_at dksX1_weight_1 3 rfl rfl)
theorem dX1_weight_27 : decode cX1_weight 27 = .ok (.goto 10, 3) := dk_167 0 10 (dk_at dksX1_weight_1 4 rfl rfl)
theorem dX1_weight_30 : decode cX1_weight 30 = .ok (.aload_n 0, 1) := dk_42 (dk_at dksX1_weight_1 7 rfl rfl)
theorem dX1_weight_31 : decode cX1_weight 31 = .ok (.getfield 43, 3) := dk_180 0 43 (dk_at dksX1_weight_1 8 rfl rfl)
theorem dX1_weight_34 : decode cX1_weight 34 = .ok (.iload 5, 2) := dk_21 5 (dk_at dksX1_weight_1 11 rfl rfl)
theorem dX1_weight_36 : decode cX1_weight 36 = .ok (.iaload, 1) := dk_46 (dk_at dksX1_weight_1 13 rfl rfl)
theorem dX1_weight_37 : decode cX1_weight 37 = .ok (.istore 6, 2) := dk_54 6 (dk_at dksX1_weight_1 14 rfl rfl)
theorem dX1_weight_39 : decode cX1_weight 39 = .ok (.iload 6, 2) := dk_21 6 (dk_at dksX1_weight_1 16 rfl rfl)
theorem dX1_weight_41 : decode cX1_weight 41 = .ok (.iconst (-1), 1) := dk_2 (dk_at dksX1_weight_1 18 rfl rfl)
theorem dX1_weight_42 : decode cX1_weight 42 = .ok (.if_icmp .eq 44, 3) := dk_159 0 44 (dk_at dksX1_weight_1 19 rfl rfl)
theorem dX1_weight_45 : decode cX1_weight 45 = .ok (.iload 4, 2) := dk_21 4 (dk_at dksX1_weight_1 22 rfl rfl)
theorem dX1_weight_47 : decode cX1_weight 47 = .ok (.iload 6, 2) := dk_21 6 (dk_at dksX1_weight_2 0 rfl rfl)
theorem dX1_weight_49 : decode cX1_weight 49 = .ok (.iconst 1, 1) := dk_4 (dk_at dksX1_weight_2 2 rfl rfl)
theorem dX1_weight_50 : decode cX1_weight 50 = .ok (.if_icmp .ne 18, 3) := dk_160 0 18 (dk_at dksX1_weight_2 3 rfl rfl)
theorem dX1_weight_53 : decode cX1_weight 53 = .ok (.aload_n 0, 1) := dk_42 (dk_at dksX1_weight_2 6 rfl rfl)
theorem dX1_weight_54 : decode cX1_weight 54 = .ok (.getfield 79, 3) := dk_180 0 79 (dk_at dksX1_weight_2 7 rfl rfl)
theorem dX1_weight_57 : decode cX1_weight 57 = .ok (.getfield 403, 3) := dk_180 1 147 (dk_at dksX1_weight_2 10 rfl rfl)
theorem dX1_weight_60 : decode cX1_weight 60 = .ok (.iload_n 1, 1) := dk_27 (dk_at dksX1_weight_2 13 rfl rfl)
theorem dX1_weight_61 : decode cX1_weight 61 = .ok (.aaload, 1) := dk_50 (dk_at dksX1_weight_2 14 rfl rfl)
theorem dX1_weight_62 : decode cX1_weight 62 = .ok (.iload 5, 2) := dk_21 5 (dk_at dksX1_weight_2 15 rfl rfl)
theorem dX1_weight_64 : decode cX1_weight 64 = .ok (.iaload, 1) := dk_46 (dk_at dksX1_weight_2 17 rfl rfl)
theorem dX1_weight_65 : decode cX1_weight 65 = .ok (.goto 18, 3) := dk_167 0 18 (dk_at dksX1_weight_2 18 rfl rfl)
theorem dX1_weight_68 : decode cX1_weight 68 = .ok (.bipush 16, 2) := dk_16 16 (dk_at dksX1_weight_2 21 rfl rfl)
theorem dX1_weight_70 : decode cX1_weight 70 = .ok (.aload_n 0, 1) := dk_42 (dk_at dksX1_weight_2 23 rfl rfl)
theorem dX1_weight_71 : decode cX1_weight 71 = .ok (.getfield 79, 3) := dk_180 0 79 (dk_at dksX1_weight_3 0 rfl rfl)
theorem dX1_weight_74 : decode cX1_weight 74 = .ok (.getfield 403, 3) := dk_180 1 147 (dk_at dksX1_weight_3 3 rfl rfl)
theorem dX1_weight_77 : decode cX1_weight 77 = .ok (.iload_n 1, 1) := dk_27 (dk_at dksX1_weight_3 6 rfl rfl)
theorem dX1_weight_78 : decode cX1_weight 78 = .ok (.aaload, 1) := dk_50 (dk_at dksX1_weight_3 7 rfl rfl)
theorem dX1_weight_79 : decode cX1_weight 79 = .ok (.iload 5, 2) := dk_21 5 (dk_at dksX1_weight_3 8 rfl rfl)
theorem dX1_weight_81 : decode cX1_weight 81 = .ok (.iaload, 1) := dk_46 (dk_at dksX1_weight_3 10 rfl rfl)
theorem dX1_weight_82 : decode cX1_weight 82 = .ok (.isub, 1) := dk_100 (dk_at dksX1_weight_3 11 rfl rfl)
theorem dX1_weight_83 : decode cX1_weight 83 = .ok (.imul, 1) := dk_104 (dk_at dksX1_weight_3 12 rfl rfl)
theorem dX1_weight_84 : decode cX1_weight 84 = .ok (.istore 4, 2) := dk_54 4 (dk_at dksX1_weight_3 13 rfl rfl)
theorem dX1_weight_86 : decode cX1_weight 86 = .ok (.iinc 5 1, 3) := dk_132 5 1 (dk_at dksX1_weight_3 15 rfl rfl)
theorem dX1_weight_89 : decode cX1_weight 89 = .ok (.goto (-75), 3) := dk_167 255 181 (dk_at dksX1_weight_3 18 rfl rfl)
theorem dX1_weight_92 : decode cX1_weight 92 = .ok (.iload 4, 2) := dk_21 4 (dk_at dksX1_weight_3 21 rfl rfl)
theorem dX1_weight_94 : decode cX1_weight 94 = .ok (.ireturn, 1) := dk_172 (dk_at dksX1_weight_3 23 rfl rfl)
abbrev cX1_ask : ByteArray := prog_1_method_59_code
def yX1_ask : MethodName := ⟨RX1, "ask", "()I"⟩
def dkwX1_ask_2 : List UInt8 := [163, 0, 6, 167, 0, 8, 29, 60, 21, 4, 61, 132, 3, 1, 167, 255, 201, 27, 172]
abbrev dktX1_ask_2 : List UInt8 := dkwX1_ask_2 ++ []
def dkwX1_ask_1 : List UInt8 := [42, 29, 3, 182, 1, 154, 42, 29, 4, 182, 1, 154, 96, 54, 4, 27, 2, 159, 0, 12, 21, 4, 28]
abbrev dktX1_ask_1 : List UInt8 := dkwX1_ask_1 ++ dktX1_ask_2
def dkwX1_ask_0 : List UInt8 := [2, 60, 3, 61, 3, 62, 29, 6, 162, 0, 56, 42, 180, 0, 43, 29, 46, 2, 159, 0, 6, 167, 0, 37]
abbrev dktX1_ask_0 : List UInt8 := dkwX1_ask_0 ++ dktX1_ask_1
theorem dksX1_ask_0 : cX1_ask.data.toList.drop 0 = dktX1_ask_0 := by decide +kernel
theorem dksX1_ask_1 : cX1_ask.data.toList.drop 24 = dktX1_ask_1 := dk_seg dksX1_ask_0 24 rfl rfl
theorem dksX1_ask_2 : cX1_ask.data.toList.drop 47 = dktX1_ask_2 := dk_seg dksX1_ask_1 23 rfl rfl
theorem dX1_ask_0 : decode cX1_ask 0 = .ok (.iconst (-1), 1) := dk_2 (dk_at dksX1_ask_0 0 rfl rfl)
theorem dX1_ask_1 : decode cX1_ask 1 = .ok (.istore_n 1, 1) := dk_60 (dk_at dksX1_ask_0 1 rfl rfl)
theorem dX1_ask_2 : decode cX1_ask 2 = .ok (.iconst 0, 1) := dk_3 (dk_at dksX1_ask_0 2 rfl rfl)
theorem dX1_ask_3 : decode cX1_ask 3 = .ok (.istore_n 2, 1) := dk_61 (dk_at dksX1_ask_0 3 rfl rfl)
theorem dX1_ask_4 : decode cX1_ask 4 = .ok (.iconst 0, 1) := dk_3 (dk_at dksX1_ask_0 4 rfl rfl)
theorem dX1_ask_5 : decode cX1_ask 5 = .ok (.istore_n 3, 1) := dk_62 (dk_at dksX1_ask_0 5 rfl rfl)
theorem dX1_ask_6 : decode cX1_ask 6 = .ok (.iload_n 3, 1) := dk_29 (dk_at dksX1_ask_0 6 rfl rfl)
theorem dX1_ask_7 : decode cX1_ask 7 = .ok (.iconst 3, 1) := dk_6 (dk_at dksX1_ask_0 7 rfl rfl)
theorem dX1_ask_8 : decode cX1_ask 8 = .ok (.if_icmp .ge 56, 3) := dk_162 0 56 (dk_at dksX1_ask_0 8 rfl rfl)
theorem dX1_ask_11 : decode cX1_ask 11 = .ok (.aload_n 0, 1) := dk_42 (dk_at dksX1_ask_0 11 rfl rfl)
theorem dX1_ask_12 : decode cX1_ask 12 = .ok (.getfield 43, 3) := dk_180 0 43 (dk_at dksX1_ask_0 12 rfl rfl)
theorem dX1_ask_15 : decode cX1_ask 15 = .ok (.iload_n 3, 1) := dk_29 (dk_at dksX1_ask_0 15 rfl rfl)
theorem dX1_ask_16 : decode cX1_ask 16 = .ok (.iaload, 1) := dk_46 (dk_at dksX1_ask_0 16 rfl rfl)
theorem dX1_ask_17 : decode cX1_ask 17 = .ok (.iconst (-1), 1) := dk_2 (dk_at dksX1_ask_0 17 rfl rfl)
theorem dX1_ask_18 : decode cX1_ask 18 = .ok (.if_icmp .eq 6, 3) := dk_159 0 6 (dk_at dksX1_ask_0 18 rfl rfl)
theorem dX1_ask_21 : decode cX1_ask 21 = .ok (.goto 37, 3) := dk_167 0 37 (dk_at dksX1_ask_0 21 rfl rfl)
theorem dX1_ask_24 : decode cX1_ask 24 = .ok (.aload_n 0, 1) := dk_42 (dk_at dksX1_ask_1 0 rfl rfl)
theorem dX1_ask_25 : decode cX1_ask 25 = .ok (.iload_n 3, 1) := dk_29 (dk_at dksX1_ask_1 1 rfl rfl)
theorem dX1_ask_26 : decode cX1_ask 26 = .ok (.iconst 0, 1) := dk_3 (dk_at dksX1_ask_1 2 rfl rfl)
theorem dX1_ask_27 : decode cX1_ask 27 = .ok (.invokevirtual 410, 3) := dk_182 1 154 (dk_at dksX1_ask_1 3 rfl rfl)
theorem dX1_ask_30 : decode cX1_ask 30 = .ok (.aload_n 0, 1) := dk_42 (dk_at dksX1_ask_1 6 rfl rfl)
theorem dX1_ask_31 : decode cX1_ask 31 = .ok (.iload_n 3, 1) := dk_29 (dk_at dksX1_ask_1 7 rfl rfl)
theorem dX1_ask_32 : decode cX1_ask 32 = .ok (.iconst 1, 1) := dk_4 (dk_at dksX1_ask_1 8 rfl rfl)
theorem dX1_ask_33 : decode cX1_ask 33 = .ok (.invokevirtual 410, 3) := dk_182 1 154 (dk_at dksX1_ask_1 9 rfl rfl)
theorem dX1_ask_36 : decode cX1_ask 36 = .ok (.iadd, 1) := dk_96 (dk_at dksX1_ask_1 12 rfl rfl)
theorem dX1_ask_37 : decode cX1_ask 37 = .ok (.istore 4, 2) := dk_54 4 (dk_at dksX1_ask_1 13 rfl rfl)
theorem dX1_ask_39 : decode cX1_ask 39 = .ok (.iload_n 1, 1) := dk_27 (dk_at dksX1_ask_1 15 rfl rfl)
theorem dX1_ask_40 : decode cX1_ask 40 = .ok (.iconst (-1), 1) := dk_2 (dk_at dksX1_ask_1 16 rfl rfl)
theorem dX1_ask_41 : decode cX1_ask 41 = .ok (.if_icmp .eq 12, 3) := dk_159 0 12 (dk_at dksX1_ask_1 17 rfl rfl)
theorem dX1_ask_44 : decode cX1_ask 44 = .ok (.iload 4, 2) := dk_21 4 (dk_at dksX1_ask_1 20 rfl rfl)
theorem dX1_ask_46 : decode cX1_ask 46 = .ok (.iload_n 2, 1) := dk_28 (dk_at dksX1_ask_1 22 rfl rfl)
theorem dX1_ask_47 : decode cX1_ask 47 = .ok (.if_icmp .gt 6, 3) := dk_163 0 6 (dk_at dksX1_ask_2 0 rfl rfl)
theorem dX1_ask_50 : decode cX1_ask 50 = .ok (.goto 8, 3) := dk_167 0 8 (dk_at dksX1_ask_2 3 rfl rfl)
theorem dX1_ask_53 : decode cX1_ask 53 = .ok (.iload_n 3, 1) := dk_29 (dk_at dksX1_ask_2 6 rfl rfl)
theorem dX1_ask_54 : decode cX1_ask 54 = .ok (.istore_n 1, 1) := dk_60 (dk_at dksX1_ask_2 7 rfl rfl)
theorem dX1_ask_55 : decode cX1_ask 55 = .ok (.iload 4, 2) := dk_21 4 (dk_at dksX1_ask_2 8 rfl rfl)
theorem dX1_ask_57 : decode cX1_ask 57 = .ok (.istore_n 2, 1) := dk_61 (dk_at dksX1_ask_2 10 rfl rfl)
theorem dX1_ask_58 : decode cX1_ask 58 = .ok (.iinc 3 1, 3) := dk_132 3 1 (dk_at dksX1_ask_2 11 rfl rfl)
theorem dX1_ask_61 : decode cX1_ask 61 = .ok (.goto (-55), 3) := dk_167 255 201 (dk_at dksX1_ask_2 14 rfl rfl)
theorem dX1_ask_64 : decode cX1_ask 64 = .ok (.iload_n 1, 1) := dk_27 (dk_at dksX1_ask_2 17 rfl rfl)
theorem dX1_ask_65 : decode cX1_ask 65 = .ok (.ireturn, 1) := dk_172 (dk_at dksX1_ask_2 18 rfl rfl)
abbrev cX1_greatest : ByteArray := prog_1_method_58_code
def yX1_greatest : MethodName := ⟨RX1, "greatest", "(II)I"⟩
def dkwX1_greatest_1 : List UInt8 := [182, 1, 151, 184, 1, 95, 62, 132, 4, 1, 167, 255, 228, 29, 172]
abbrev dktX1_greatest_1 : List UInt8 := dkwX1_greatest_1 ++ []
def dkwX1_greatest_0 : List UInt8 := [3, 62, 3, 54, 4, 21, 4, 42, 180, 0, 79, 180, 0, 203, 162, 0, 22, 29, 42, 21, 4, 27, 28]
abbrev dktX1_greatest_0 : List UInt8 := dkwX1_greatest_0 ++ dktX1_greatest_1
theorem dksX1_greatest_0 : cX1_greatest.data.toList.drop 0 = dktX1_greatest_0 := by decide +kernel
theorem dksX1_greatest_1 : cX1_greatest.data.toList.drop 23 = dktX1_greatest_1 := dk_seg dksX1_greatest_0 23 rfl rfl
theorem dX1_greatest_0 : decode cX1_greatest 0 = .ok (.iconst 0, 1) := dk_3 (dk_at dksX1_greatest_0 0 rfl rfl)
theorem dX1_greatest_1 : decode cX1_greatest 1 = .ok (.istore_n 3, 1) := dk_62 (dk_at dksX1_greatest_0 1 rfl rfl)
theorem dX1_greatest_2 : decode cX1_greatest 2 = .ok (.iconst 0, 1) := dk_3 (dk_at dksX1_greatest_0 2 rfl rfl)
theorem dX1_greatest_3 : decode cX1_greatest 3 = .ok (.istore 4, 2) := dk_54 4 (dk_at dksX1_greatest_0 3 rfl rfl)
theorem dX1_greatest_5 : decode cX1_greatest 5 = .ok (.iload 4, 2) := dk_21 4 (dk_at dksX1_greatest_0 5 rfl rfl)
theorem dX1_greatest_7 : decode cX1_greatest 7 = .ok (.aload_n 0, 1) := dk_42 (dk_at dksX1_greatest_0 7 rfl rfl)
theorem dX1_greatest_8 : decode cX1_greatest 8 = .ok (.getfield 79, 3) := dk_180 0 79 (dk_at dksX1_greatest_0 8 rfl rfl)
theorem dX1_greatest_11 : decode cX1_greatest 11 = .ok (.getfield 203, 3) := dk_180 0 203 (dk_at dksX1_greatest_0 11 rfl rfl)
theorem dX1_greatest_14 : decode cX1_greatest 14 = .ok (.if_icmp .ge 22, 3) := dk_162 0 22 (dk_at dksX1_greatest_0 14 rfl rfl)
theorem dX1_greatest_17 : decode cX1_greatest 17 = .ok (.iload_n 3, 1) := dk_29 (dk_at dksX1_greatest_0 17 rfl rfl)
theorem dX1_greatest_18 : decode cX1_greatest 18 = .ok (.aload_n 0, 1) := dk_42 (dk_at dksX1_greatest_0 18 rfl rfl)
theorem dX1_greatest_19 : decode cX1_greatest 19 = .ok (.iload 4, 2) := dk_21 4 (dk_at dksX1_greatest_0 19 rfl rfl)
theorem dX1_greatest_21 : decode cX1_greatest 21 = .ok (.iload_n 1, 1) := dk_27 (dk_at dksX1_greatest_0 21 rfl rfl)
theorem dX1_greatest_22 : decode cX1_greatest 22 = .ok (.iload_n 2, 1) := dk_28 (dk_at dksX1_greatest_0 22 rfl rfl)
theorem dX1_greatest_23 : decode cX1_greatest 23 = .ok (.invokevirtual 407, 3) := dk_182 1 151 (dk_at dksX1_greatest_1 0 rfl rfl)
theorem dX1_greatest_26 : decode cX1_greatest 26 = .ok (.invokestatic 351, 3) := dk_184 1 95 (dk_at dksX1_greatest_1 3 rfl rfl)
theorem dX1_greatest_29 : decode cX1_greatest 29 = .ok (.istore_n 3, 1) := dk_62 (dk_at dksX1_greatest_1 6 rfl rfl)
theorem dX1_greatest_30 : decode cX1_greatest 30 = .ok (.iinc 4 1, 3) := dk_132 4 1 (dk_at dksX1_greatest_1 7 rfl rfl)
theorem dX1_greatest_33 : decode cX1_greatest 33 = .ok (.goto (-28), 3) := dk_167 255 228 (dk_at dksX1_greatest_1 10 rfl rfl)
theorem dX1_greatest_36 : decode cX1_greatest 36 = .ok (.iload_n 3, 1) := dk_29 (dk_at dksX1_greatest_1 13 rfl rfl)
theorem dX1_greatest_37 : decode cX1_greatest 37 = .ok (.ireturn, 1) := dk_172 (dk_at dksX1_greatest_1 14 rfl rfl)
abbrev cX1_undo : ByteArray := prog_1_method_67_code
def yX1_undo : MethodName := ⟨RX1, "undo", "()I"⟩
def dkwX1_undo_1 : List UInt8 := [90, 181, 0, 151, 50, 182, 0, 172, 87, 42, 180, 0, 151, 172]
abbrev dktX1_undo_1 : List UInt8 := dkwX1_undo_1 ++ []
def dkwX1_undo_0 : List UInt8 := [42, 180, 0, 151, 154, 0, 5, 2, 172, 42, 180, 0, 23, 42, 180, 0, 27, 42, 89, 180, 0, 151, 4, 100]
abbrev dktX1_undo_0 : List UInt8 := dkwX1_undo_0 ++ dktX1_undo_1
theorem dksX1_undo_0 : cX1_undo.data.toList.drop 0 = dktX1_undo_0 := by decide +kernel
theorem dksX1_undo_1 : cX1_undo.data.toList.drop 24 = dktX1_undo_1 := dk_seg dksX1_undo_0 24 rfl rfl
theorem dX1_undo_0 : decode cX1_undo 0 = .ok (.aload_n 0, 1) := dk_42 (dk_at dksX1_undo_0 0 rfl rfl)
theorem dX1_undo_1 : decode cX1_undo 1 = .ok (.getfield 151, 3) := dk_180 0 151 (dk_at dksX1_undo_0 1 rfl rfl)
theorem dX1_undo_4 : decode cX1_undo 4 = .ok (.ifCond .ne 5, 3) := dk_154 0 5 (dk_at dksX1_undo_0 4 rfl rfl)
theorem dX1_undo_7 : decode cX1_undo 7 = .ok (.iconst (-1), 1) := dk_2 (dk_at dksX1_undo_0 7 rfl rfl)
theorem dX1_undo_8 : decode cX1_undo 8 = .ok (.ireturn, 1) := dk_172 (dk_at dksX1_undo_0 8 rfl rfl)
theorem dX1_undo_9 : decode cX1_undo 9 = .ok (.aload_n 0, 1) := dk_42 (dk_at dksX1_undo_0 9 rfl rfl)
theorem dX1_undo_10 : decode cX1_undo 10 = .ok (.getfield 23, 3) := dk_180 0 23 (dk_at dksX1_undo_0 10 rfl rfl)
theorem dX1_undo_13 : decode cX1_undo 13 = .ok (.aload_n 0, 1) := dk_42 (dk_at dksX1_undo_0 13 rfl rfl)
theorem dX1_undo_14 : decode cX1_undo 14 = .ok (.getfield 27, 3) := dk_180 0 27 (dk_at dksX1_undo_0 14 rfl rfl)
theorem dX1_undo_17 : decode cX1_undo 17 = .ok (.aload_n 0, 1) := dk_42 (dk_at dksX1_undo_0 17 rfl rfl)
theorem dX1_undo_18 : decode cX1_undo 18 = .ok (.dup, 1) := dk_89 (dk_at dksX1_undo_0 18 rfl rfl)
theorem dX1_undo_19 : decode cX1_undo 19 = .ok (.getfield 151, 3) := dk_180 0 151 (dk_at dksX1_undo_0 19 rfl rfl)
theorem dX1_undo_22 : decode cX1_undo 22 = .ok (.iconst 1, 1) := dk_4 (dk_at dksX1_undo_0 22 rfl rfl)
theorem dX1_undo_23 : decode cX1_undo 23 = .ok (.isub, 1) := dk_100 (dk_at dksX1_undo_0 23 rfl rfl)
theorem dX1_undo_24 : decode cX1_undo 24 = .ok (.dup_x1, 1) := dk_90 (dk_at dksX1_undo_1 0 rfl rfl)
theorem dX1_undo_25 : decode cX1_undo 25 = .ok (.putfield 151, 3) := dk_181 0 151 (dk_at dksX1_undo_1 1 rfl rfl)
theorem dX1_undo_28 : decode cX1_undo 28 = .ok (.aaload, 1) := dk_50 (dk_at dksX1_undo_1 4 rfl rfl)
theorem dX1_undo_29 : decode cX1_undo 29 = .ok (.invokevirtual 172, 3) := dk_182 0 172 (dk_at dksX1_undo_1 5 rfl rfl)
theorem dX1_undo_32 : decode cX1_undo 32 = .ok (.pop, 1) := dk_87 (dk_at dksX1_undo_1 8 rfl rfl)
theorem dX1_undo_33 : decode cX1_undo 33 = .ok (.aload_n 0, 1) := dk_42 (dk_at dksX1_undo_1 9 rfl rfl)
theorem dX1_undo_34 : decode cX1_undo 34 = .ok (.getfield 151, 3) := dk_180 0 151 (dk_at dksX1_undo_1 10 rfl rfl)
theorem dX1_undo_37 : decode cX1_undo 37 = .ok (.ireturn, 1) := dk_172 (dk_at dksX1_undo_1 13 rfl rfl)
abbrev cX1_image : ByteArray := prog_1_method_68_code
def yX1_image : MethodName := ⟨RX1, "image", "()I"⟩
def dkwX1_image_3 : List UInt8 := [180, 0, 154, 42, 180, 0, 151, 79, 42, 89, 180, 0, 154, 4, 96, 90, 181, 0, 154, 172]
abbrev dktX1_image_3 : List UInt8 := dkwX1_image_3 ++ []
def dkwX1_image_2 : List UInt8 := [180, 0, 33, 42, 180, 0, 154, 50, 16, 20, 50, 42, 180, 0, 23, 182, 0, 172, 87, 42, 180, 0, 36, 42]
abbrev dktX1_image_2 : List UInt8 := dkwX1_image_2 ++ dktX1_image_3
def dkwX1_image_1 : List UInt8 := [42, 180, 0, 154, 50, 27, 50, 42, 180, 0, 27, 27, 50, 182, 0, 172, 87, 132, 1, 1, 167, 255, 224, 42]
abbrev dktX1_image_1 : List UInt8 := dkwX1_image_1 ++ dktX1_image_2
def dkwX1_image_0 : List UInt8 := [42, 180, 0, 154, 6, 160, 0, 5, 2, 172, 3, 60, 27, 42, 180, 0, 151, 162, 0, 30, 42, 180, 0, 33]
abbrev dktX1_image_0 : List UInt8 := dkwX1_image_0 ++ dktX1_image_1
theorem dksX1_image_0 : cX1_image.data.toList.drop 0 = dktX1_image_0 := by decide +kernel
theorem dksX1_image_1 : cX1_image.data.toList.drop 24 = dktX1_image_1 := dk_seg dksX1_image_0 24 rfl rfl
theorem dksX1_image_2 : cX1_image.data.toList.drop 48 = dktX1_image_2 := dk_seg dksX1_image_1 24 rfl rfl
theorem dksX1_image_3 : cX1_image.data.toList.drop 72 = dktX1_image_3 := dk_seg dksX1_image_2 24 rfl rfl
theorem dX1_image_0 : decode cX1_image 0 = .ok (.aload_n 0, 1) := dk_42 (dk_at dksX1_image_0 0 rfl rfl)
theorem dX1_image_1 : decode cX1_image 1 = .ok (.getfield 154, 3) := dk_180 0 154 (dk_at dksX1_image_0 1 rfl rfl)
theorem dX1_image_4 : decode cX1_image 4 = .ok (.iconst 3, 1) := dk_6 (dk_at dksX1_image_0 4 rfl rfl)
theorem dX1_image_5 : decode cX1_image 5 = .ok (.if_icmp .ne 5, 3) := dk_160 0 5 (dk_at dksX1_image_0 5 rfl rfl)
theorem dX1_image_8 : decode cX1_image 8 = .ok (.iconst (-1), 1) := dk_2 (dk_at dksX1_image_0 8 rfl rfl)
theorem dX1_image_9 : decode cX1_image 9 = .ok (.ireturn, 1) := dk_172 (dk_at dksX1_image_0 9 rfl rfl)
theorem dX1_image_10 : decode cX1_image 10 = .ok (.iconst 0, 1) := dk_3 (dk_at dksX1_image_0 10 rfl rfl)
theorem dX1_image_11 : decode cX1_image 11 = .ok (.istore_n 1, 1) := dk_60 (dk_at dksX1_image_0 11 rfl rfl)
theorem dX1_image_12 : decode cX1_image 12 = .ok (.iload_n 1, 1) := dk_27 (dk_at dksX1_image_0 12 rfl rfl)
theorem dX1_image_13 : decode cX1_image 13 = .ok (.aload_n 0, 1) := dk_42 (dk_at dksX1_image_0 13 rfl rfl)
theorem dX1_image_14 : decode cX1_image 14 = .ok (.getfield 151, 3) := dk_180 0 151 (dk_at dksX1_image_0 14 rfl rfl)
theorem dX1_image_17 : decode cX1_image 17 = .ok (.if_icmp .ge 30, 3) := dk_162 0 30 (dk_at dksX1_image_0 17 rfl rfl)
theorem dX1_image_20 : decode cX1_image 20 = .ok (.aload_n 0, 1) := dk_42 (dk_at dksX1_image_0 20 rfl rfl)
theorem dX1_image_21 : decode cX1_image 21 = .ok (.getfield 33, 3) := dk_180 0 33 (dk_at dksX1_image_0 21 rfl rfl)
theorem dX1_image_24 : decode cX1_image 24 = .ok (.aload_n 0, 1) := dk_42 (dk_at dksX1_image_1 0 rfl rfl)
theorem dX1_image_25 : decode cX1_image 25 = .ok (.getfield 154, 3) := dk_180 0 154 (dk_at dksX1_image_1 1 rfl rfl)
theorem dX1_image_28 : decode cX1_image 28 = .ok (.aaload, 1) := dk_50 (dk_at dksX1_image_1 4 rfl rfl)
theorem dX1_image_29 : decode cX1_image 29 = .ok (.iload_n 1, 1) := dk_27 (dk_at dksX1_image_1 5 rfl rfl)
theorem dX1_image_30 : decode cX1_image 30 = .ok (.aaload, 1) := dk_50 (dk_at dksX1_image_1 6 rfl rfl)
theorem dX1_image_31 : decode cX1_image 31 = .ok (.aload_n 0, 1) := dk_42 (dk_at dksX1_image_1 7 rfl rfl)
theorem dX1_image_32 : decode cX1_image 32 = .ok (.getfield 27, 3) := dk_180 0 27 (dk_at dksX1_image_1 8 rfl rfl)
theorem dX1_image_35 : decode cX1_image 35 = .ok (.iload_n 1, 1) := dk_27 (dk_at dksX1_image_1 11 rfl rfl)
theorem dX1_image_36 : decode cX1_image 36 = .ok (.aaload, 1) := dk_50 (dk_at dksX1_image_1 12 rfl rfl)
theorem dX1_image_37 : decode cX1_image 37 = .ok (.invokevirtual 172, 3) := dk_182 0 172 (dk_at dksX1_image_1 13 rfl rfl)
theorem dX1_image_40 : decode cX1_image 40 = .ok (.pop, 1) := dk_87 (dk_at dksX1_image_1 16 rfl rfl)
theorem dX1_image_41 : decode cX1_image 41 = .ok (.iinc 1 1, 3) := dk_132 1 1 (dk_at dksX1_image_1 17 rfl rfl)
theorem dX1_image_44 : decode cX1_image 44 = .ok (.goto (-32), 3) := dk_167 255 224 (dk_at dksX1_image_1 20 rfl rfl)
theorem dX1_image_47 : decode cX1_image 47 = .ok (.aload_n 0, 1) := dk_42 (dk_at dksX1_image_1 23 rfl rfl)
theorem dX1_image_48 : decode cX1_image 48 = .ok (.getfield 33, 3) := dk_180 0 33 (dk_at dksX1_image_2 0 rfl rfl)
theorem dX1_image_51 : decode cX1_image 51 = .ok (.aload_n 0, 1) := dk_42 (dk_at dksX1_image_2 3 rfl rfl)
theorem dX1_image_52 : decode cX1_image 52 = .ok (.getfield 154, 3) := dk_180 0 154 (dk_at dksX1_image_2 4 rfl rfl)
theorem dX1_image_55 : decode cX1_image 55 = .ok (.aaload, 1) := dk_50 (dk_at dksX1_image_2 7 rfl rfl)
theorem dX1_image_56 : decode cX1_image 56 = .ok (.bipush 20, 2) := dk_16 20 (dk_at dksX1_image_2 8 rfl rfl)
theorem dX1_image_58 : decode cX1_image 58 = .ok (.aaload, 1) := dk_50 (dk_at dksX1_image_2 10 rfl rfl)
theorem dX1_image_59 : decode cX1_image 59 = .ok (.aload_n 0, 1) := dk_42 (dk_at dksX1_image_2 11 rfl rfl)
theorem dX1_image_60 : decode cX1_image 60 = .ok (.getfield 23, 3) := dk_180 0 23 (dk_at dksX1_image_2 12 rfl rfl)
theorem dX1_image_63 : decode cX1_image 63 = .ok (.invokevirtual 172, 3) := dk_182 0 172 (dk_at dksX1_image_2 15 rfl rfl)
theorem dX1_image_66 : decode cX1_image 66 = .ok (.pop, 1) := dk_87 (dk_at dksX1_image_2 18 rfl rfl)
theorem dX1_image_67 : decode cX1_image 67 = .ok (.aload_n 0, 1) := dk_42 (dk_at dksX1_image_2 19 rfl rfl)
theorem dX1_image_68 : decode cX1_image 68 = .ok (.getfield 36, 3) := dk_180 0 36 (dk_at dksX1_image_2 20 rfl rfl)
theorem dX1_image_71 : decode cX1_image 71 = .ok (.aload_n 0, 1) := dk_42 (dk_at dksX1_image_2 23 rfl rfl)
theorem dX1_image_72 : decode cX1_image 72 = .ok (.getfield 154, 3) := dk_180 0 154 (dk_at dksX1_image_3 0 rfl rfl)
theorem dX1_image_75 : decode cX1_image 75 = .ok (.aload_n 0, 1) := dk_42 (dk_at dksX1_image_3 3 rfl rfl)
theorem dX1_image_76 : decode cX1_image 76 = .ok (.getfield 151, 3) := dk_180 0 151 (dk_at dksX1_image_3 4 rfl rfl)
theorem dX1_image_79 : decode cX1_image 79 = .ok (.iastore, 1) := dk_79 (dk_at dksX1_image_3 7 rfl rfl)
theorem dX1_image_80 : decode cX1_image 80 = .ok (.aload_n 0, 1) := dk_42 (dk_at dksX1_image_3 8 rfl rfl)
theorem dX1_image_81 : decode cX1_image 81 = .ok (.dup, 1) := dk_89 (dk_at dksX1_image_3 9 rfl rfl)
theorem dX1_image_82 : decode cX1_image 82 = .ok (.getfield 154, 3) := dk_180 0 154 (dk_at dksX1_image_3 10 rfl rfl)
theorem dX1_image_85 : decode cX1_image 85 = .ok (.iconst 1, 1) := dk_4 (dk_at dksX1_image_3 13 rfl rfl)
theorem dX1_image_86 : decode cX1_image 86 = .ok (.iadd, 1) := dk_96 (dk_at dksX1_image_3 14 rfl rfl)
theorem dX1_image_87 : decode cX1_image 87 = .ok (.dup_x1, 1) := dk_90 (dk_at dksX1_image_3 15 rfl rfl)
theorem dX1_image_88 : decode cX1_image 88 = .ok (.putfield 154, 3) := dk_181 0 154 (dk_at dksX1_image_3 16 rfl rfl)
theorem dX1_image_91 : decode cX1_image 91 = .ok (.ireturn, 1) := dk_172 (dk_at dksX1_image_3 19 rfl rfl)
abbrev cX1_restore : ByteArray := prog_1_method_69_code
def yX1_restore : MethodName := ⟨RX1, "restore", "()I"⟩
def dkwX1_restore_3 : List UInt8 := [180, 0, 23, 42, 180, 0, 33, 42, 180, 0, 154, 50, 16, 20, 50, 182, 0, 172, 87, 42, 180, 0, 154, 172]
abbrev dktX1_restore_3 : List UInt8 := dkwX1_restore_3 ++ []
def dkwX1_restore_2 : List UInt8 := [42, 180, 0, 33, 42, 180, 0, 154, 50, 27, 50, 182, 0, 172, 87, 132, 1, 1, 167, 255, 224, 42]
abbrev dktX1_restore_2 : List UInt8 := dkwX1_restore_2 ++ dktX1_restore_3
def dkwX1_restore_1 : List UInt8 := [42, 180, 0, 154, 46, 181, 0, 151, 3, 60, 27, 42, 180, 0, 151, 162, 0, 30, 42, 180, 0, 27, 27, 50]
abbrev dktX1_restore_1 : List UInt8 := dkwX1_restore_1 ++ dktX1_restore_2
def dkwX1_restore_0 : List UInt8 := [42, 180, 0, 154, 154, 0, 5, 2, 172, 42, 89, 180, 0, 154, 4, 100, 181, 0, 154, 42, 42, 180, 0, 36]
abbrev dktX1_restore_0 : List UInt8 := dkwX1_restore_0 ++ dktX1_restore_1
theorem dksX1_restore_0 : cX1_restore.data.toList.drop 0 = dktX1_restore_0 := by decide +kernel
theorem dksX1_restore_1 : cX1_restore.data.toList.drop 24 = dktX1_restore_1 := dk_seg dksX1_restore_0 24 rfl rfl
theorem dksX1_restore_2 : cX1_restore.data.toList.drop 48 = dktX1_restore_2 := dk_seg dksX1_restore_1 24 rfl rfl
theorem dksX1_restore_3 : cX1_restore.data.toList.drop 70 = dktX1_restore_3 := dk_seg dksX1_restore_2 22 rfl rfl
theorem dX1_restore_0 : decode cX1_restore 0 = .ok (.aload_n 0, 1) := dk_42 (dk_at dksX1_restore_0 0 rfl rfl)
theorem dX1_restore_1 : decode cX1_restore 1 = .ok (.getfield 154, 3) := dk_180 0 154 (dk_at dksX1_restore_0 1 rfl rfl)
theorem dX1_restore_4 : decode cX1_restore 4 = .ok (.ifCond .ne 5, 3) := dk_154 0 5 (dk_at dksX1_restore_0 4 rfl rfl)
theorem dX1_restore_7 : decode cX1_restore 7 = .ok (.iconst (-1), 1) := dk_2 (dk_at dksX1_restore_0 7 rfl rfl)
theorem dX1_restore_8 : decode cX1_restore 8 = .ok (.ireturn, 1) := dk_172 (dk_at dksX1_restore_0 8 rfl rfl)
theorem dX1_restore_9 : decode cX1_restore 9 = .ok (.aload_n 0, 1) := dk_42 (dk_at dksX1_restore_0 9 rfl rfl)
theorem dX1_restore_10 : decode cX1_restore 10 = .ok (.dup, 1) := dk_89 (dk_at dksX1_restore_0 10 rfl rfl)
theorem dX1_restore_11 : decode cX1_restore 11 = .ok (.getfield 154, 3) := dk_180 0 154 (dk_at dksX1_restore_0 11 rfl rfl)
theorem dX1_restore_14 : decode cX1_restore 14 = .ok (.iconst 1, 1) := dk_4 (dk_at dksX1_restore_0 14 rfl rfl)
theorem dX1_restore_15 : decode cX1_restore 15 = .ok (.isub, 1) := dk_100 (dk_at dksX1_restore_0 15 rfl rfl)
theorem dX1_restore_16 : decode cX1_restore 16 = .ok (.putfield 154, 3) := dk_181 0 154 (dk_at dksX1_restore_0 16 rfl rfl)
theorem dX1_restore_19 : decode cX1_restore 19 = .ok (.aload_n 0, 1) := dk_42 (dk_at dksX1_restore_0 19 rfl rfl)
theorem dX1_restore_20 : decode cX1_restore 20 = .ok (.aload_n 0, 1) := dk_42 (dk_at dksX1_restore_0 20 rfl rfl)
theorem dX1_restore_21 : decode cX1_restore 21 = .ok (.getfield 36, 3) := dk_180 0 36 (dk_at dksX1_restore_0 21 rfl rfl)
theorem dX1_restore_24 : decode cX1_restore 24 = .ok (.aload_n 0, 1) := dk_42 (dk_at dksX1_restore_1 0 rfl rfl)
theorem dX1_restore_25 : decode cX1_restore 25 = .ok (.getfield 154, 3) := dk_180 0 154 (dk_at dksX1_restore_1 1 rfl rfl)
theorem dX1_restore_28 : decode cX1_restore 28 = .ok (.iaload, 1) := dk_46 (dk_at dksX1_restore_1 4 rfl rfl)
theorem dX1_restore_29 : decode cX1_restore 29 = .ok (.putfield 151, 3) := dk_181 0 151 (dk_at dksX1_restore_1 5 rfl rfl)
theorem dX1_restore_32 : decode cX1_restore 32 = .ok (.iconst 0, 1) := dk_3 (dk_at dksX1_restore_1 8 rfl rfl)
theorem dX1_restore_33 : decode cX1_restore 33 = .ok (.istore_n 1, 1) := dk_60 (dk_at dksX1_restore_1 9 rfl rfl)
theorem dX1_restore_34 : decode cX1_restore 34 = .ok (.iload_n 1, 1) := dk_27 (dk_at dksX1_restore_1 10 rfl rfl)
theorem dX1_restore_35 : decode cX1_restore 35 = .ok (.aload_n 0, 1) := dk_42 (dk_at dksX1_restore_1 11 rfl rfl)
theorem dX1_restore_36 : decode cX1_restore 36 = .ok (.getfield 151, 3) := dk_180 0 151 (dk_at dksX1_restore_1 12 rfl rfl)
theorem dX1_restore_39 : decode cX1_restore 39 = .ok (.if_icmp .ge 30, 3) := dk_162 0 30 (dk_at dksX1_restore_1 15 rfl rfl)
theorem dX1_restore_42 : decode cX1_restore 42 = .ok (.aload_n 0, 1) := dk_42 (dk_at dksX1_restore_1 18 rfl rfl)
theorem dX1_restore_43 : decode cX1_restore 43 = .ok (.getfield 27, 3) := dk_180 0 27 (dk_at dksX1_restore_1 19 rfl rfl)
theorem dX1_restore_46 : decode cX1_restore 46 = .ok (.iload_n 1, 1) := dk_27 (dk_at dksX1_restore_1 22 rfl rfl)
theorem dX1_restore_47 : decode cX1_restore 47 = .ok (.aaload, 1) := dk_50 (dk_at dksX1_restore_1 23 rfl rfl)
theorem dX1_restore_48 : decode cX1_restore 48 = .ok (.aload_n 0, 1) := dk_42 (dk_at dksX1_restore_2 0 rfl rfl)
theorem dX1_restore_49 : decode cX1_restore 49 = .ok (.getfield 33, 3) := dk_180 0 33 (dk_at dksX1_restore_2 1 rfl rfl)
theorem dX1_restore_52 : decode cX1_restore 52 = .ok (.aload_n 0, 1) := dk_42 (dk_at dksX1_restore_2 4 rfl rfl)
theorem dX1_restore_53 : decode cX1_restore 53 = .ok (.getfield 154, 3) := dk_180 0 154 (dk_at dksX1_restore_2 5 rfl rfl)
theorem dX1_restore_56 : decode cX1_restore 56 = .ok (.aaload, 1) := dk_50 (dk_at dksX1_restore_2 8 rfl rfl)
theorem dX1_restore_57 : decode cX1_restore 57 = .ok (.iload_n 1, 1) := dk_27 (dk_at dksX1_restore_2 9 rfl rfl)
theorem dX1_restore_58 : decode cX1_restore 58 = .ok (.aaload, 1) := dk_50 (dk_at dksX1_restore_2 10 rfl rfl)
theorem dX1_restore_59 : decode cX1_restore 59 = .ok (.invokevirtual 172, 3) := dk_182 0 172 (dk_at dksX1_restore_2 11 rfl rfl)
theorem dX1_restore_62 : decode cX1_restore 62 = .ok (.pop, 1) := dk_87 (dk_at dksX1_restore_2 14 rfl rfl)
theorem dX1_restore_63 : decode cX1_restore 63 = .ok (.iinc 1 1, 3) := dk_132 1 1 (dk_at dksX1_restore_2 15 rfl rfl)
theorem dX1_restore_66 : decode cX1_restore 66 = .ok (.goto (-32), 3) := dk_167 255 224 (dk_at dksX1_restore_2 18 rfl rfl)
theorem dX1_restore_69 : decode cX1_restore 69 = .ok (.aload_n 0, 1) := dk_42 (dk_at dksX1_restore_2 21 rfl rfl)
theorem dX1_restore_70 : decode cX1_restore 70 = .ok (.getfield 23, 3) := dk_180 0 23 (dk_at dksX1_restore_3 0 rfl rfl)
theorem dX1_restore_73 : decode cX1_restore 73 = .ok (.aload_n 0, 1) := dk_42 (dk_at dksX1_restore_3 3 rfl rfl)
theorem dX1_restore_74 : decode cX1_restore 74 = .ok (.getfield 33, 3) := dk_180 0 33 (dk_at dksX1_restore_3 4 rfl rfl)
theorem dX1_restore_77 : decode cX1_restore 77 = .ok (.aload_n 0, 1) := dk_42 (dk_at dksX1_restore_3 7 rfl rfl)
theorem dX1_restore_78 : decode cX1_restore 78 = .ok (.getfield 154, 3) := dk_180 0 154 (dk_at dksX1_restore_3 8 rfl rfl)
theorem dX1_restore_81 : decode cX1_restore 81 = .ok (.aaload, 1) := dk_50 (dk_at dksX1_restore_3 11 rfl rfl)
theorem dX1_restore_82 : decode cX1_restore 82 = .ok (.bipush 20, 2) := dk_16 20 (dk_at dksX1_restore_3 12 rfl rfl)
theorem dX1_restore_84 : decode cX1_restore 84 = .ok (.aaload, 1) := dk_50 (dk_at dksX1_restore_3 14 rfl rfl)
theorem dX1_restore_85 : decode cX1_restore 85 = .ok (.invokevirtual 172, 3) := dk_182 0 172 (dk_at dksX1_restore_3 15 rfl rfl)
theorem dX1_restore_88 : decode cX1_restore 88 = .ok (.pop, 1) := dk_87 (dk_at dksX1_restore_3 18 rfl rfl)
theorem dX1_restore_89 : decode cX1_restore 89 = .ok (.aload_n 0, 1) := dk_42 (dk_at dksX1_restore_3 19 rfl rfl)
theorem dX1_restore_90 : decode cX1_restore 90 = .ok (.getfield 154, 3) := dk_180 0 154 (dk_at dksX1_restore_3 20 rfl rfl)
theorem dX1_restore_93 : decode cX1_restore 93 = .ok (.ireturn, 1) := dk_172 (dk_at dksX1_restore_3 23 rfl rfl)
abbrev cX1_status : ByteArray := prog_1_method_70_code
def yX1_status : MethodName := ⟨RX1, "status", "(I)I"⟩
def dkwX1_status_0 : List UInt8 := [27, 155, 0, 8, 27, 5, 164, 0, 7, 2, 167, 0, 9, 42, 180, 0, 40, 27, 46, 172]
abbrev dktX1_status_0 : List UInt8 := dkwX1_status_0 ++ []
theorem dksX1_status_0 : cX1_status.data.toList.drop 0 = dktX1_status_0 := by decide +kernel
theorem dX1_status_0 : decode cX1_status 0 = .ok (.iload_n 1, 1) := dk_27 (dk_at dksX1_status_0 0 rfl rfl)
theorem dX1_status_1 : decode cX1_status 1 = .ok (.ifCond .lt 8, 3) := dk_155 0 8 (dk_at dksX1_status_0 1 rfl rfl)
theorem dX1_status_4 : decode cX1_status 4 = .ok (.iload_n 1, 1) := dk_27 (dk_at dksX1_status_0 4 rfl rfl)
theorem dX1_status_5 : decode cX1_status 5 = .ok (.iconst 2, 1) := dk_5 (dk_at dksX1_status_0 5 rfl rfl)
theorem dX1_status_6 : decode cX1_status 6 = .ok (.if_icmp .le 7, 3) := dk_164 0 7 (dk_at dksX1_status_0 6 rfl rfl)
theorem dX1_status_9 : decode cX1_status 9 = .ok (.iconst (-1), 1) := dk_2 (dk_at dksX1_status_0 9 rfl rfl)
theorem dX1_status_10 : decode cX1_status 10 = .ok (.goto 9, 3) := dk_167 0 9 (dk_at dksX1_status_0 10 rfl rfl)
theorem dX1_status_13 : decode cX1_status 13 = .ok (.aload_n 0, 1) := dk_42 (dk_at dksX1_status_0 13 rfl rfl)
theorem dX1_status_14 : decode cX1_status 14 = .ok (.getfield 40, 3) := dk_180 0 40 (dk_at dksX1_status_0 14 rfl rfl)
theorem dX1_status_17 : decode cX1_status 17 = .ok (.iload_n 1, 1) := dk_27 (dk_at dksX1_status_0 17 rfl rfl)
theorem dX1_status_18 : decode cX1_status 18 = .ok (.iaload, 1) := dk_46 (dk_at dksX1_status_0 18 rfl rfl)
theorem dX1_status_19 : decode cX1_status 19 = .ok (.ireturn, 1) := dk_172 (dk_at dksX1_status_0 19 rfl rfl)
abbrev cX1_count : ByteArray := prog_1_method_71_code
def yX1_count : MethodName := ⟨RX1, "count", "(I)I"⟩
def dkwX1_count_1 : List UInt8 := [5, 160, 0, 10, 42, 180, 0, 151, 167, 0, 4, 2, 172]
abbrev dktX1_count_1 : List UInt8 := dkwX1_count_1 ++ []
def dkwX1_count_0 : List UInt8 := [27, 154, 0, 10, 42, 180, 0, 154, 167, 0, 28, 27, 4, 160, 0, 10, 42, 180, 0, 109, 167, 0, 16, 27]
abbrev dktX1_count_0 : List UInt8 := dkwX1_count_0 ++ dktX1_count_1
theorem dksX1_count_0 : cX1_count.data.toList.drop 0 = dktX1_count_0 := by decide +kernel
theorem dksX1_count_1 : cX1_count.data.toList.drop 24 = dktX1_count_1 := dk_seg dksX1_count_0 24 rfl rfl
theorem dX1_count_0 : decode cX1_count 0 = .ok (.iload_n 1, 1) := dk_27 (dk_at dksX1_count_0 0 rfl rfl)
theorem dX1_count_1 : decode cX1_count 1 = .ok (.ifCond .ne 10, 3) := dk_154 0 10 (dk_at dksX1_count_0 1 rfl rfl)
theorem dX1_count_4 : decode cX1_count 4 = .ok (.aload_n 0, 1) := dk_42 (dk_at dksX1_count_0 4 rfl rfl)
theorem dX1_count_5 : decode cX1_count 5 = .ok (.getfield 154, 3) := dk_180 0 154 (dk_at dksX1_count_0 5 rfl rfl)
theorem dX1_count_8 : decode cX1_count 8 = .ok (.goto 28, 3) := dk_167 0 28 (dk_at dksX1_count_0 8 rfl rfl)
theorem dX1_count_11 : decode cX1_count 11 = .ok (.iload_n 1, 1) := dk_27 (dk_at dksX1_count_0 11 rfl rfl)
theorem dX1_count_12 : decode cX1_count 12 = .ok (.iconst 1, 1) := dk_4 (dk_at dksX1_count_0 12 rfl rfl)
theorem dX1_count_13 : decode cX1_count 13 = .ok (.if_icmp .ne 10, 3) := dk_160 0 10 (dk_at dksX1_count_0 13 rfl rfl)
theorem dX1_count_16 : decode cX1_count 16 = .ok (.aload_n 0, 1) := dk_42 (dk_at dksX1_count_0 16 rfl rfl)
theorem dX1_count_17 : decode cX1_count 17 = .ok (.getfield 109, 3) := dk_180 0 109 (dk_at dksX1_count_0 17 rfl rfl)
theorem dX1_count_20 : decode cX1_count 20 = .ok (.goto 16, 3) := dk_167 0 16 (dk_at dksX1_count_0 20 rfl rfl)
theorem dX1_count_23 : decode cX1_count 23 = .ok (.iload_n 1, 1) := dk_27 (dk_at dksX1_count_0 23 rfl rfl)
theorem dX1_count_24 : decode cX1_count 24 = .ok (.iconst 2, 1) := dk_5 (dk_at dksX1_count_1 0 rfl rfl)
theorem dX1_count_25 : decode cX1_count 25 = .ok (.if_icmp .ne 10, 3) := dk_160 0 10 (dk_at dksX1_count_1 1 rfl rfl)
theorem dX1_count_28 : decode cX1_count 28 = .ok (.aload_n 0, 1) := dk_42 (dk_at dksX1_count_1 4 rfl rfl)
theorem dX1_count_29 : decode cX1_count 29 = .ok (.getfield 151, 3) := dk_180 0 151 (dk_at dksX1_count_1 5 rfl rfl)
theorem dX1_count_32 : decode cX1_count 32 = .ok (.goto 4, 3) := dk_167 0 4 (dk_at dksX1_count_1 8 rfl rfl)
theorem dX1_count_35 : decode cX1_count 35 = .ok (.iconst (-1), 1) := dk_2 (dk_at dksX1_count_1 11 rfl rfl)
theorem dX1_count_36 : decode cX1_count 36 = .ok (.ireturn, 1) := dk_172 (dk_at dksX1_count_1 12 rfl rfl)
abbrev cX1_road : ByteArray := prog_1_method_13_code
def yX1_road : MethodName := ⟨RX1, "road", "(I)I"⟩
def dkwX1_road_4 : List UInt8 := [180, 0, 90, 172]
abbrev dktX1_road_4 : List UInt8 := dkwX1_road_4 ++ []
def dkwX1_road_3 : List UInt8 := [28, 2, 79, 132, 2, 1, 167, 255, 241, 42, 3, 181, 0, 151, 42, 3, 181, 0, 154, 42, 180, 0, 79]
abbrev dktX1_road_3 : List UInt8 := dkwX1_road_3 ++ dktX1_road_4
def dkwX1_road_2 : List UInt8 := [42, 180, 0, 16, 1, 181, 0, 146, 42, 3, 181, 0, 150, 3, 61, 28, 6, 162, 0, 16, 42, 180, 0, 43]
abbrev dktX1_road_2 : List UInt8 := dkwX1_road_2 ++ dktX1_road_3
def dkwX1_road_1 : List UInt8 := [182, 0, 138, 181, 0, 79, 167, 0, 10, 77, 42, 44, 182, 0, 142, 172, 42, 180, 0, 23, 3, 181, 0, 100]
abbrev dktX1_road_1 : List UInt8 := dkwX1_road_1 ++ dktX1_road_2
def dkwX1_road_0 : List UInt8 := [42, 27, 3, 42, 180, 0, 109, 182, 0, 125, 42, 187, 0, 129, 89, 42, 27, 182, 0, 131, 183, 0, 135]
abbrev dktX1_road_0 : List UInt8 := dkwX1_road_0 ++ dktX1_road_1
theorem dksX1_road_0 : cX1_road.data.toList.drop 0 = dktX1_road_0 := by decide +kernel
theorem dksX1_road_1 : cX1_road.data.toList.drop 23 = dktX1_road_1 := dk_seg dksX1_road_0 23 rfl rfl
theorem dksX1_road_2 : cX1_road.data.toList.drop 47 = dktX1_road_2 := dk_seg dksX1_road_1 24 rfl rfl
theorem dksX1_road_3 : cX1_road.data.toList.drop 71 = dktX1_road_3 := dk_seg dksX1_road_2 24 rfl rfl
theorem dksX1_road_4 : cX1_road.data.toList.drop 94 = dktX1_road_4 := dk_seg dksX1_road_3 23 rfl rfl
theorem dX1_road_0 : decode cX1_road 0 = .ok (.aload_n 0, 1) := dk_42 (dk_at dksX1_road_0 0 rfl rfl)
theorem dX1_road_1 : decode cX1_road 1 = .ok (.iload_n 1, 1) := dk_27 (dk_at dksX1_road_0 1 rfl rfl)
theorem dX1_road_2 : decode cX1_road 2 = .ok (.iconst 0, 1) := dk_3 (dk_at dksX1_road_0 2 rfl rfl)
theorem dX1_road_3 : decode cX1_road 3 = .ok (.aload_n 0, 1) := dk_42 (dk_at dksX1_road_0 3 rfl rfl)
theorem dX1_road_4 : decode cX1_road 4 = .ok (.getfield 109, 3) := dk_180 0 109 (dk_at dksX1_road_0 4 rfl rfl)
theorem dX1_road_7 : decode cX1_road 7 = .ok (.invokevirtual 125, 3) := dk_182 0 125 (dk_at dksX1_road_0 7 rfl rfl)
theorem dX1_road_10 : decode cX1_road 10 = .ok (.aload_n 0, 1) := dk_42 (dk_at dksX1_road_0 10 rfl rfl)
theorem dX1_road_11 : decode cX1_road 11 = .ok (.new 129, 3) := dk_187 0 129 (dk_at dksX1_road_0 11 rfl rfl)
theorem dX1_road_14 : decode cX1_road 14 = .ok (.dup, 1) := dk_89 (dk_at dksX1_road_0 14 rfl rfl)
theorem dX1_road_15 : decode cX1_road 15 = .ok (.aload_n 0, 1) := dk_42 (dk_at dksX1_road_0 15 rfl rfl)
theorem dX1_road_16 : decode cX1_road 16 = .ok (.iload_n 1, 1) := dk_27 (dk_at dksX1_road_0 16 rfl rfl)
theorem dX1_road_17 : decode cX1_road 17 = .ok (.invokevirtual 131, 3) := dk_182 0 131 (dk_at dksX1_road_0 17 rfl rfl)
theorem dX1_road_20 : decode cX1_road 20 = .ok (.invokespecial 135, 3) := dk_183 0 135 (dk_at dksX1_road_0 20 rfl rfl)
theorem dX1_road_23 : decode cX1_road 23 = .ok (.invokevirtual 138, 3) := dk_182 0 138 (dk_at dksX1_road_1 0 rfl rfl)
theorem dX1_road_26 : decode cX1_road 26 = .ok (.putfield 79, 3) := dk_181 0 79 (dk_at dksX1_road_1 3 rfl rfl)
theorem dX1_road_29 : decode cX1_road 29 = .ok (.goto 10, 3) := dk_167 0 10 (dk_at dksX1_road_1 6 rfl rfl)
theorem dX1_road_32 : decode cX1_road 32 = .ok (.astore_n 2, 1) := dk_77 (dk_at dksX1_road_1 9 rfl rfl)
theorem dX1_road_33 : decode cX1_road 33 = .ok (.aload_n 0, 1) := dk_42 (dk_at dksX1_road_1 10 rfl rfl)
theorem dX1_road_34 : decode cX1_road 34 = .ok (.aload_n 2, 1) := dk_44 (dk_at dksX1_road_1 11 rfl rfl)
theorem dX1_road_35 : decode cX1_road 35 = .ok (.invokevirtual 142, 3) := dk_182 0 142 (dk_at dksX1_road_1 12 rfl rfl)
theorem dX1_road_38 : decode cX1_road 38 = .ok (.ireturn, 1) := dk_172 (dk_at dksX1_road_1 15 rfl rfl)
theorem dX1_road_39 : decode cX1_road 39 = .ok (.aload_n 0, 1) := dk_42 (dk_at dksX1_road_1 16 rfl rfl)
theorem dX1_road_40 : decode cX1_road 40 = .ok (.getfield 23, 3) := dk_180 0 23 (dk_at dksX1_road_1 17 rfl rfl)
theorem dX1_road_43 : decode cX1_road 43 = .ok (.iconst 0, 1) := dk_3 (dk_at dksX1_road_1 20 rfl rfl)
theorem dX1_road_44 : decode cX1_road 44 = .ok (.putfield 100, 3) := dk_181 0 100 (dk_at dksX1_road_1 21 rfl rfl)
theorem dX1_road_47 : decode cX1_road 47 = .ok (.aload_n 0, 1) := dk_42 (dk_at dksX1_road_2 0 rfl rfl)
theorem dX1_road_48 : decode cX1_road 48 = .ok (.getfield 16, 3) := dk_180 0 16 (dk_at dksX1_road_2 1 rfl rfl)
theorem dX1_road_51 : decode cX1_road 51 = .ok (.aconst_null, 1) := dk_1 (dk_at dksX1_road_2 4 rfl rfl)
theorem dX1_road_52 : decode cX1_road 52 = .ok (.putfield 146, 3) := dk_181 0 146 (dk_at dksX1_road_2 5 rfl rfl)
theorem dX1_road_55 : decode cX1_road 55 = .ok (.aload_n 0, 1) := dk_42 (dk_at dksX1_road_2 8 rfl rfl)
theorem dX1_road_56 : decode cX1_road 56 = .ok (.iconst 0, 1) := dk_3 (dk_at dksX1_road_2 9 rfl rfl)
theorem dX1_road_57 : decode cX1_road 57 = .ok (.putfield 150, 3) := dk_181 0 150 (dk_at dksX1_road_2 10 rfl rfl)
theorem dX1_road_60 : decode cX1_road 60 = .ok (.iconst 0, 1) := dk_3 (dk_at dksX1_road_2 13 rfl rfl)
theorem dX1_road_61 : decode cX1_road 61 = .ok (.istore_n 2, 1) := dk_61 (dk_at dksX1_road_2 14 rfl rfl)
theorem dX1_road_62 : decode cX1_road 62 = .ok (.iload_n 2, 1) := dk_28 (dk_at dksX1_road_2 15 rfl rfl)
theorem dX1_road_63 : decode cX1_road 63 = .ok (.iconst 3, 1) := dk_6 (dk_at dksX1_road_2 16 rfl rfl)
theorem dX1_road_64 : decode cX1_road 64 = .ok (.if_icmp .ge 16, 3) := dk_162 0 16 (dk_at dksX1_road_2 17 rfl rfl)
theorem dX1_road_67 : decode cX1_road 67 = .ok (.aload_n 0, 1) := dk_42 (dk_at dksX1_road_2 20 rfl rfl)
theorem dX1_road_68 : decode cX1_road 68 = .ok (.getfield 43, 3) := dk_180 0 43 (dk_at dksX1_road_2 21 rfl rfl)
theorem dX1_road_71 : decode cX1_road 71 = .ok (.iload_n 2, 1) := dk_28 (dk_at dksX1_road_3 0 rfl rfl)
theorem dX1_road_72 : decode cX1_road 72 = .ok (.iconst (-1), 1) := dk_2 (dk_at dksX1_road_3 1 rfl rfl)
theorem dX1_road_73 : decode cX1_road 73 = .ok (.iastore, 1) := dk_79 (dk_at dksX1_road_3 2 rfl rfl)
theorem dX1_road_74 : decode cX1_road 74 = .ok (.iinc 2 1, 3) := dk_132 2 1 (dk_at dksX1_road_3 3 rfl rfl)
theorem dX1_road_77 : decode cX1_road 77 = .ok (.goto (-15), 3) := dk_167 255 241 (dk_at dksX1_road_3 6 rfl rfl)
theorem dX1_road_80 : decode cX1_road 80 = .ok (.aload_n 0, 1) := dk_42 (dk_at dksX1_road_3 9 rfl rfl)
theorem dX1_road_81 : decode cX1_road 81 = .ok (.iconst 0, 1) := dk_3 (dk_at dksX1_road_3 10 rfl rfl)
theorem dX1_road_82 : decode cX1_road 82 = .ok (.putfield 151, 3) := dk_181 0 151 (dk_at dksX1_road_3 11 rfl rfl)
theorem dX1_road_85 : decode cX1_road 85 = .ok (.aload_n 0, 1) := dk_42 (dk_at dksX1_road_3 14 rfl rfl)
theorem dX1_road_86 : decode cX1_road 86 = .ok (.iconst 0, 1) := dk_3 (dk_at dksX1_road_3 15 rfl rfl)
theorem dX1_road_87 : decode cX1_road 87 = .ok (.putfield 154, 3) := dk_181 0 154 (dk_at dksX1_road_3 16 rfl rfl)
theorem dX1_road_90 : decode cX1_road 90 = .ok (.aload_n 0, 1) := dk_42 (dk_at dksX1_road_3 19 rfl rfl)
theorem dX1_road_91 : decode cX1_road 91 = .ok (.getfield 79, 3) := dk_180 0 79 (dk_at dksX1_road_3 20 rfl rfl)
theorem dX1_road_94 : decode cX1_road 94 = .ok (.getfield 90, 3) := dk_180 0 90 (dk_at dksX1_road_4 0 rfl rfl)
theorem dX1_road_97 : decode cX1_road 97 = .ok (.ireturn, 1) := dk_172 (dk_at dksX1_road_4 3 rfl rfl)
abbrev cX1_within : ByteArray := prog_1_method_8_code
def yX1_within : MethodName := ⟨RX1, "within", "(III)V"⟩
def dkwX1_within_1 : List UInt8 := [89, 183, 0, 105, 191]
abbrev dktX1_within_1 : List UInt8 := dkwX1_within_1 ++ []
def dkwX1_within_0 : List UInt8 := [27, 28, 161, 0, 9, 27, 29, 163, 0, 4, 177, 42, 180, 0, 40, 4, 92, 46, 4, 96, 79, 187, 0, 103]
abbrev dktX1_within_0 : List UInt8 := dkwX1_within_0 ++ dktX1_within_1
theorem dksX1_within_0 : cX1_within.data.toList.drop 0 = dktX1_within_0 := by decide +kernel
theorem dksX1_within_1 : cX1_within.data.toList.drop 24 = dktX1_within_1 := dk_seg dksX1_within_0 24 rfl rfl
theorem dX1_within_0 : decode cX1_within 0 = .ok (.iload_n 1, 1) := dk_27 (dk_at dksX1_within_0 0 rfl rfl)
theorem dX1_within_1 : decode cX1_within 1 = .ok (.iload_n 2, 1) := dk_28 (dk_at dksX1_within_0 1 rfl rfl)
theorem dX1_within_2 : decode cX1_within 2 = .ok (.if_icmp .lt 9, 3) := dk_161 0 9 (dk_at dksX1_within_0 2 rfl rfl)
theorem dX1_within_5 : decode cX1_within 5 = .ok (.iload_n 1, 1) := dk_27 (dk_at dksX1_within_0 5 rfl rfl)
theorem dX1_within_6 : decode cX1_within 6 = .ok (.iload_n 3, 1) := dk_29 (dk_at dksX1_within_0 6 rfl rfl)
theorem dX1_within_7 : decode cX1_within 7 = .ok (.if_icmp .gt 4, 3) := dk_163 0 4 (dk_at dksX1_within_0 7 rfl rfl)
theorem dX1_within_10 : decode cX1_within 10 = .ok (.return_, 1) := dk_177 (dk_at dksX1_within_0 10 rfl rfl)
theorem dX1_within_11 : decode cX1_within 11 = .ok (.aload_n 0, 1) := dk_42 (dk_at dksX1_within_0 11 rfl rfl)
theorem dX1_within_12 : decode cX1_within 12 = .ok (.getfield 40, 3) := dk_180 0 40 (dk_at dksX1_within_0 12 rfl rfl)
theorem dX1_within_15 : decode cX1_within 15 = .ok (.iconst 1, 1) := dk_4 (dk_at dksX1_within_0 15 rfl rfl)
theorem dX1_within_16 : decode cX1_within 16 = .ok (.dup2, 1) := dk_92 (dk_at dksX1_within_0 16 rfl rfl)
theorem dX1_within_17 : decode cX1_within 17 = .ok (.iaload, 1) := dk_46 (dk_at dksX1_within_0 17 rfl rfl)
theorem dX1_within_18 : decode cX1_within 18 = .ok (.iconst 1, 1) := dk_4 (dk_at dksX1_within_0 18 rfl rfl)
theorem dX1_within_19 : decode cX1_within 19 = .ok (.iadd, 1) := dk_96 (dk_at dksX1_within_0 19 rfl rfl)
theorem dX1_within_20 : decode cX1_within 20 = .ok (.iastore, 1) := dk_79 (dk_at dksX1_within_0 20 rfl rfl)
theorem dX1_within_21 : decode cX1_within 21 = .ok (.new 103, 3) := dk_187 0 103 (dk_at dksX1_within_0 21 rfl rfl)
theorem dX1_within_24 : decode cX1_within 24 = .ok (.dup, 1) := dk_89 (dk_at dksX1_within_1 0 rfl rfl)
theorem dX1_within_25 : decode cX1_within 25 = .ok (.invokespecial 105, 3) := dk_183 0 105 (dk_at dksX1_within_1 1 rfl rfl)
theorem dX1_within_28 : decode cX1_within 28 = .ok (.athrow, 1) := dk_191 (dk_at dksX1_within_1 4 rfl rfl)
abbrev cX1_reader : ByteArray := prog_1_method_11_code
def yX1_reader : MethodName := ⟨RX1, "reader", "(I)LRainWheel$Reader;"⟩
def dkwX1_reader_0 : List UInt8 := [42, 3, 181, 0, 109, 42, 2, 181, 0, 83, 187, 0, 112, 89, 42, 180, 0, 9, 27, 183, 0, 114, 176]
abbrev dktX1_reader_0 : List UInt8 := dkwX1_reader_0 ++ []
theorem dksX1_reader_0 : cX1_reader.data.toList.drop 0 = dktX1_reader_0 := by decide +kernel
theorem dX1_reader_0 : decode cX1_reader 0 = .ok (.aload_n 0, 1) := dk_42 (dk_at dksX1_reader_0 0 rfl rfl)
theorem dX1_reader_1 : decode cX1_reader 1 = .ok (.iconst 0, 1) := dk_3 (dk_at dksX1_reader_0 1 rfl rfl)
theorem dX1_reader_2 : decode cX1_reader 2 = .ok (.putfield 109, 3) := dk_181 0 109 (dk_at dksX1_reader_0 2 rfl rfl)
theorem dX1_reader_5 : decode cX1_reader 5 = .ok (.aload_n 0, 1) := dk_42 (dk_at dksX1_reader_0 5 rfl rfl)
theorem dX1_reader_6 : decode cX1_reader 6 = .ok (.iconst (-1), 1) := dk_2 (dk_at dksX1_reader_0 6 rfl rfl)
theorem dX1_reader_7 : decode cX1_reader 7 = .ok (.putfield 83, 3) := dk_181 0 83 (dk_at dksX1_reader_0 7 rfl rfl)
theorem dX1_reader_10 : decode cX1_reader 10 = .ok (.new 112, 3) := dk_187 0 112 (dk_at dksX1_reader_0 10 rfl rfl)
theorem dX1_reader_13 : decode cX1_reader 13 = .ok (.dup, 1) := dk_89 (dk_at dksX1_reader_0 13 rfl rfl)
theorem dX1_reader_14 : decode cX1_reader 14 = .ok (.aload_n 0, 1) := dk_42 (dk_at dksX1_reader_0 14 rfl rfl)
theorem dX1_reader_15 : decode cX1_reader 15 = .ok (.getfield 9, 3) := dk_180 0 9 (dk_at dksX1_reader_0 15 rfl rfl)
theorem dX1_reader_18 : decode cX1_reader 18 = .ok (.iload_n 1, 1) := dk_27 (dk_at dksX1_reader_0 18 rfl rfl)
theorem dX1_reader_19 : decode cX1_reader 19 = .ok (.invokespecial 114, 3) := dk_183 0 114 (dk_at dksX1_reader_0 19 rfl rfl)
theorem dX1_reader_22 : decode cX1_reader 22 = .ok (.areturn, 1) := dk_176 (dk_at dksX1_reader_0 22 rfl rfl)
abbrev cX1_faulty : ByteArray := prog_1_method_12_code
def yX1_faulty : MethodName := ⟨RX1, "faulty", "(LRainWheel$Wrong;)I"⟩
def dkwX1_faulty_0 : List UInt8 := [42, 43, 180, 0, 117, 181, 0, 83, 43, 180, 0, 122, 16, 10, 100, 172]
abbrev dktX1_faulty_0 : List UInt8 := dkwX1_faulty_0 ++ []
theorem dksX1_faulty_0 : cX1_faulty.data.toList.drop 0 = dktX1_faulty_0 := by decide +kernel
theorem dX1_faulty_0 : decode cX1_faulty 0 = .ok (.aload_n 0, 1) := dk_42 (dk_at dksX1_faulty_0 0 rfl rfl)
theorem dX1_faulty_1 : decode cX1_faulty 1 = .ok (.aload_n 1, 1) := dk_43 (dk_at dksX1_faulty_0 1 rfl rfl)
theorem dX1_faulty_2 : decode cX1_faulty 2 = .ok (.getfield 117, 3) := dk_180 0 117 (dk_at dksX1_faulty_0 2 rfl rfl)
theorem dX1_faulty_5 : decode cX1_faulty 5 = .ok (.putfield 83, 3) := dk_181 0 83 (dk_at dksX1_faulty_0 5 rfl rfl)
theorem dX1_faulty_8 : decode cX1_faulty 8 = .ok (.aload_n 1, 1) := dk_43 (dk_at dksX1_faulty_0 8 rfl rfl)
theorem dX1_faulty_9 : decode cX1_faulty 9 = .ok (.getfield 122, 3) := dk_180 0 122 (dk_at dksX1_faulty_0 9 rfl rfl)
theorem dX1_faulty_12 : decode cX1_faulty 12 = .ok (.bipush 10, 2) := dk_16 10 (dk_at dksX1_faulty_0 12 rfl rfl)
theorem dX1_faulty_14 : decode cX1_faulty 14 = .ok (.isub, 1) := dk_100 (dk_at dksX1_faulty_0 14 rfl rfl)
theorem dX1_faulty_15 : decode cX1_faulty 15 = .ok (.ireturn, 1) := dk_172 (dk_at dksX1_faulty_0 15 rfl rfl)
abbrev cX1_law : ByteArray := prog_1_method_14_code
def yX1_law : MethodName := ⟨RX1, "law", "(I)I"⟩
def dkwX1_law_2 : List UInt8 := [4, 172]
abbrev dktX1_law_2 : List UInt8 := dkwX1_law_2 ++ []
def dkwX1_law_1 : List UInt8 := [42, 27, 182, 0, 131, 183, 0, 165, 182, 0, 166, 181, 0, 146, 167, 0, 10, 77, 42, 44, 182, 0, 142, 172]
abbrev dktX1_law_1 : List UInt8 := dkwX1_law_1 ++ dktX1_law_2
def dkwX1_law_0 : List UInt8 := [42, 27, 3, 42, 180, 0, 109, 17, 0, 150, 184, 0, 157, 182, 0, 125, 42, 180, 0, 16, 187, 0, 163, 89]
abbrev dktX1_law_0 : List UInt8 := dkwX1_law_0 ++ dktX1_law_1
theorem dksX1_law_0 : cX1_law.data.toList.drop 0 = dktX1_law_0 := by decide +kernel
theorem dksX1_law_1 : cX1_law.data.toList.drop 24 = dktX1_law_1 := dk_seg dksX1_law_0 24 rfl rfl
theorem dksX1_law_2 : cX1_law.data.toList.drop 48 = dktX1_law_2 := dk_seg dksX1_law_1 24 rfl rfl
theorem dX1_law_0 : decode cX1_law 0 = .ok (.aload_n 0, 1) := dk_42 (dk_at dksX1_law_0 0 rfl rfl)
theorem dX1_law_1 : decode cX1_law 1 = .ok (.iload_n 1, 1) := dk_27 (dk_at dksX1_law_0 1 rfl rfl)
theorem dX1_law_2 : decode cX1_law 2 = .ok (.iconst 0, 1) := dk_3 (dk_at dksX1_law_0 2 rfl rfl)
theorem dX1_law_3 : decode cX1_law 3 = .ok (.aload_n 0, 1) := dk_42 (dk_at dksX1_law_0 3 rfl rfl)
theorem dX1_law_4 : decode cX1_law 4 = .ok (.getfield 109, 3) := dk_180 0 109 (dk_at dksX1_law_0 4 rfl rfl)
theorem dX1_law_7 : decode cX1_law 7 = .ok (.sipush 150, 3) := dk_17 0 150 (dk_at dksX1_law_0 7 rfl rfl)
theorem dX1_law_10 : decode cX1_law 10 = .ok (.invokestatic 157, 3) := dk_184 0 157 (dk_at dksX1_law_0 10 rfl rfl)
theorem dX1_law_13 : decode cX1_law 13 = .ok (.invokevirtual 125, 3) := dk_182 0 125 (dk_at dksX1_law_0 13 rfl rfl)
theorem dX1_law_16 : decode cX1_law 16 = .ok (.aload_n 0, 1) := dk_42 (dk_at dksX1_law_0 16 rfl rfl)
theorem dX1_law_17 : decode cX1_law 17 = .ok (.getfield 16, 3) := dk_180 0 16 (dk_at dksX1_law_0 17 rfl rfl)
theorem dX1_law_20 : decode cX1_law 20 = .ok (.new 163, 3) := dk_187 0 163 (dk_at dksX1_law_0 20 rfl rfl)
theorem dX1_law_23 : decode cX1_law 23 = .ok (.dup, 1) := dk_89 (dk_at dksX1_law_0 23 rfl rfl)
theorem dX1_law_24 : decode cX1_law 24 = .ok (.aload_n 0, 1) := dk_42 (dk_at dksX1_law_1 0 rfl rfl)
theorem dX1_law_25 : decode cX1_law 25 = .ok (.iload_n 1, 1) := dk_27 (dk_at dksX1_law_1 1 rfl rfl)
theorem dX1_law_26 : decode cX1_law 26 = .ok (.invokevirtual 131, 3) := dk_182 0 131 (dk_at dksX1_law_1 2 rfl rfl)
theorem dX1_law_29 : decode cX1_law 29 = .ok (.invokespecial 165, 3) := dk_183 0 165 (dk_at dksX1_law_1 5 rfl rfl)
theorem dX1_law_32 : decode cX1_law 32 = .ok (.invokevirtual 166, 3) := dk_182 0 166 (dk_at dksX1_law_1 8 rfl rfl)
theorem dX1_law_35 : decode cX1_law 35 = .ok (.putfield 146, 3) := dk_181 0 146 (dk_at dksX1_law_1 11 rfl rfl)
theorem dX1_law_38 : decode cX1_law 38 = .ok (.goto 10, 3) := dk_167 0 10 (dk_at dksX1_law_1 14 rfl rfl)
theorem dX1_law_41 : decode cX1_law 41 = .ok (.astore_n 2, 1) := dk_77 (dk_at dksX1_law_1 17 rfl rfl)
theorem dX1_law_42 : decode cX1_law 42 = .ok (.aload_n 0, 1) := dk_42 (dk_at dksX1_law_1 18 rfl rfl)
theorem dX1_law_43 : decode cX1_law 43 = .ok (.aload_n 2, 1) := dk_44 (dk_at dksX1_law_1 19 rfl rfl)
theorem dX1_law_44 : decode cX1_law 44 = .ok (.invokevirtual 142, 3) := dk_182 0 142 (dk_at dksX1_law_1 20 rfl rfl)
theorem dX1_law_47 : decode cX1_law 47 = .ok (.ireturn, 1) := dk_172 (dk_at dksX1_law_1 23 rfl rfl)
theorem dX1_law_48 : decode cX1_law 48 = .ok (.iconst 1, 1) := dk_4 (dk_at dksX1_law_2 0 rfl rfl)
theorem dX1_law_49 : decode cX1_law 49 = .ok (.ireturn, 1) := dk_172 (dk_at dksX1_law_2 1 rfl rfl)
abbrev cX1_plan : ByteArray := prog_1_method_15_code
def yX1_plan : MethodName := ⟨RX1, "plan", "(I)I"⟩
def dkwX1_plan_2 : List UInt8 := [180, 0, 23, 44, 182, 0, 172, 87, 42, 3, 181, 0, 151, 42, 180, 0, 23, 180, 0, 100, 172]
abbrev dktX1_plan_2 : List UInt8 := dkwX1_plan_2 ++ []
def dkwX1_plan_1 : List UInt8 := [44, 42, 27, 182, 0, 131, 42, 180, 0, 79, 182, 0, 169, 167, 0, 10, 78, 42, 45, 182, 0, 142, 172, 42]
abbrev dktX1_plan_1 : List UInt8 := dkwX1_plan_1 ++ dktX1_plan_2
def dkwX1_plan_0 : List UInt8 := [42, 27, 3, 42, 180, 0, 109, 17, 0, 150, 184, 0, 157, 182, 0, 125, 187, 0, 20, 89, 183, 0, 22, 77]
abbrev dktX1_plan_0 : List UInt8 := dkwX1_plan_0 ++ dktX1_plan_1
theorem dksX1_plan_0 : cX1_plan.data.toList.drop 0 = dktX1_plan_0 := by decide +kernel
theorem dksX1_plan_1 : cX1_plan.data.toList.drop 24 = dktX1_plan_1 := dk_seg dksX1_plan_0 24 rfl rfl
theorem dksX1_plan_2 : cX1_plan.data.toList.drop 48 = dktX1_plan_2 := dk_seg dksX1_plan_1 24 rfl rfl
theorem dX1_plan_0 : decode cX1_plan 0 = .ok (.aload_n 0, 1) := dk_42 (dk_at dksX1_plan_0 0 rfl rfl)
theorem dX1_plan_1 : decode cX1_plan 1 = .ok (.iload_n 1, 1) := dk_27 (dk_at dksX1_plan_0 1 rfl rfl)
theorem dX1_plan_2 : decode cX1_plan 2 = .ok (.iconst 0, 1) := dk_3 (dk_at dksX1_plan_0 2 rfl rfl)
theorem dX1_plan_3 : decode cX1_plan 3 = .ok (.aload_n 0, 1) := dk_42 (dk_at dksX1_plan_0 3 rfl rfl)
theorem dX1_plan_4 : decode cX1_plan 4 = .ok (.getfield 109, 3) := dk_180 0 109 (dk_at dksX1_plan_0 4 rfl rfl)
theorem dX1_plan_7 : decode cX1_plan 7 = .ok (.sipush 150, 3) := dk_17 0 150 (dk_at dksX1_plan_0 7 rfl rfl)
theorem dX1_plan_10 : decode cX1_plan 10 = .ok (.invokestatic 157, 3) := dk_184 0 157 (dk_at dksX1_plan_0 10 rfl rfl)
theorem dX1_plan_13 : decode cX1_plan 13 = .ok (.invokevirtual 125, 3) := dk_182 0 125 (dk_at dksX1_plan_0 13 rfl rfl)
theorem dX1_plan_16 : decode cX1_plan 16 = .ok (.new 20, 3) := dk_187 0 20 (dk_at dksX1_plan_0 16 rfl rfl)
theorem dX1_plan_19 : decode cX1_plan 19 = .ok (.dup, 1) := dk_89 (dk_at dksX1_plan_0 19 rfl rfl)
theorem dX1_plan_20 : decode cX1_plan 20 = .ok (.invokespecial 22, 3) := dk_183 0 22 (dk_at dksX1_plan_0 20 rfl rfl)
theorem dX1_plan_23 : decode cX1_plan 23 = .ok (.astore_n 2, 1) := dk_77 (dk_at dksX1_plan_0 23 rfl rfl)
theorem dX1_plan_24 : decode cX1_plan 24 = .ok (.aload_n 2, 1) := dk_44 (dk_at dksX1_plan_1 0 rfl rfl)
theorem dX1_plan_25 : decode cX1_plan 25 = .ok (.aload_n 0, 1) := dk_42 (dk_at dksX1_plan_1 1 rfl rfl)
theorem dX1_plan_26 : decode cX1_plan 26 = .ok (.iload_n 1, 1) := dk_27 (dk_at dksX1_plan_1 2 rfl rfl)
theorem dX1_plan_27 : decode cX1_plan 27 = .ok (.invokevirtual 131, 3) := dk_182 0 131 (dk_at dksX1_plan_1 3 rfl rfl)
theorem dX1_plan_30 : decode cX1_plan 30 = .ok (.aload_n 0, 1) := dk_42 (dk_at dksX1_plan_1 6 rfl rfl)
theorem dX1_plan_31 : decode cX1_plan 31 = .ok (.getfield 79, 3) := dk_180 0 79 (dk_at dksX1_plan_1 7 rfl rfl)
theorem dX1_plan_34 : decode cX1_plan 34 = .ok (.invokevirtual 169, 3) := dk_182 0 169 (dk_at dksX1_plan_1 10 rfl rfl)
theorem dX1_plan_37 : decode cX1_plan 37 = .ok (.goto 10, 3) := dk_167 0 10 (dk_at dksX1_plan_1 13 rfl rfl)
theorem dX1_plan_40 : decode cX1_plan 40 = .ok (.astore_n 3, 1) := dk_78 (dk_at dksX1_plan_1 16 rfl rfl)
theorem dX1_plan_41 : decode cX1_plan 41 = .ok (.aload_n 0, 1) := dk_42 (dk_at dksX1_plan_1 17 rfl rfl)
theorem dX1_plan_42 : decode cX1_plan 42 = .ok (.aload_n 3, 1) := dk_45 (dk_at dksX1_plan_1 18 rfl rfl)
theorem dX1_plan_43 : decode cX1_plan 43 = .ok (.invokevirtual 142, 3) := dk_182 0 142 (dk_at dksX1_plan_1 19 rfl rfl)
theorem dX1_plan_46 : decode cX1_plan 46 = .ok (.ireturn, 1) := dk_172 (dk_at dksX1_plan_1 22 rfl rfl)
theorem dX1_plan_47 : decode cX1_plan 47 = .ok (.aload_n 0, 1) := dk_42 (dk_at dksX1_plan_1 23 rfl rfl)
theorem dX1_plan_48 : decode cX1_plan 48 = .ok (.getfield 23, 3) := dk_180 0 23 (dk_at dksX1_plan_2 0 rfl rfl)
theorem dX1_plan_51 : decode cX1_plan 51 = .ok (.aload_n 2, 1) := dk_44 (dk_at dksX1_plan_2 3 rfl rfl)
theorem dX1_plan_52 : decode cX1_plan 52 = .ok (.invokevirtual 172, 3) := dk_182 0 172 (dk_at dksX1_plan_2 4 rfl rfl)
theorem dX1_plan_55 : decode cX1_plan 55 = .ok (.pop, 1) := dk_87 (dk_at dksX1_plan_2 7 rfl rfl)
theorem dX1_plan_56 : decode cX1_plan 56 = .ok (.aload_n 0, 1) := dk_42 (dk_at dksX1_plan_2 8 rfl rfl)
theorem dX1_plan_57 : decode cX1_plan 57 = .ok (.iconst 0, 1) := dk_3 (dk_at dksX1_plan_2 9 rfl rfl)
theorem dX1_plan_58 : decode cX1_plan 58 = .ok (.putfield 151, 3) := dk_181 0 151 (dk_at dksX1_plan_2 10 rfl rfl)
theorem dX1_plan_61 : decode cX1_plan 61 = .ok (.aload_n 0, 1) := dk_42 (dk_at dksX1_plan_2 13 rfl rfl)
theorem dX1_plan_62 : decode cX1_plan 62 = .ok (.getfield 23, 3) := dk_180 0 23 (dk_at dksX1_plan_2 14 rfl rfl)
theorem dX1_plan_65 : decode cX1_plan 65 = .ok (.getfield 100, 3) := dk_180 0 100 (dk_at dksX1_plan_2 17 rfl rfl)
theorem dX1_plan_68 : decode cX1_plan 68 = .ok (.ireturn, 1) := dk_172 (dk_at dksX1_plan_2 20 rfl rfl)
abbrev cX1_book : ByteArray := prog_1_method_16_code
def yX1_book : MethodName := ⟨RX1, "book", "(I)I"⟩
def dkwX1_book_6 : List UInt8 := [172]
abbrev dktX1_book_6 : List UInt8 := dkwX1_book_6 ++ []
def dkwX1_book_5 : List UInt8 := [42, 25, 4, 182, 0, 142, 172, 42, 29, 181, 0, 150, 44, 3, 42, 180, 0, 43, 3, 6, 184, 0, 191, 29]
abbrev dktX1_book_5 : List UInt8 := dkwX1_book_5 ++ dktX1_book_6
def dkwX1_book_4 : List UInt8 := [25, 4, 16, 59, 182, 0, 187, 44, 21, 6, 21, 7, 79, 132, 3, 1, 167, 255, 187, 167, 0, 12, 58, 4]
abbrev dktX1_book_4 : List UInt8 := dkwX1_book_4 ++ dktX1_book_5
def dkwX1_book_3 : List UInt8 := [159, 0, 14, 187, 0, 118, 89, 5, 21, 5, 183, 0, 185, 191, 25, 4, 3, 4, 182, 0, 182, 54, 7]
abbrev dktX1_book_3 : List UInt8 := dkwX1_book_3 ++ dktX1_book_4
def dkwX1_book_2 : List UInt8 := [159, 0, 66, 25, 4, 182, 0, 180, 54, 5, 25, 4, 3, 5, 182, 0, 182, 54, 6, 44, 21, 6, 46, 2]
abbrev dktX1_book_2 : List UInt8 := dkwX1_book_2 ++ dktX1_book_3
def dkwX1_book_1 : List UInt8 := [2, 79, 89, 5, 2, 79, 77, 3, 62, 42, 27, 182, 0, 131, 58, 4, 25, 4, 182, 0, 176, 2]
abbrev dktX1_book_1 : List UInt8 := dkwX1_book_1 ++ dktX1_book_2
def dkwX1_book_0 : List UInt8 := [42, 27, 3, 42, 180, 0, 109, 16, 40, 184, 0, 157, 182, 0, 125, 6, 188, 10, 89, 3, 2, 79, 89, 4]
abbrev dktX1_book_0 : List UInt8 := dkwX1_book_0 ++ dktX1_book_1
theorem dksX1_book_0 : cX1_book.data.toList.drop 0 = dktX1_book_0 := by decide +kernel
theorem dksX1_book_1 : cX1_book.data.toList.drop 24 = dktX1_book_1 := dk_seg dksX1_book_0 24 rfl rfl
theorem dksX1_book_2 : cX1_book.data.toList.drop 46 = dktX1_book_2 := dk_seg dksX1_book_1 22 rfl rfl
theorem dksX1_book_3 : cX1_book.data.toList.drop 70 = dktX1_book_3 := dk_seg dksX1_book_2 24 rfl rfl
theorem dksX1_book_4 : cX1_book.data.toList.drop 93 = dktX1_book_4 := dk_seg dksX1_book_3 23 rfl rfl
theorem dksX1_book_5 : cX1_book.data.toList.drop 117 = dktX1_book_5 := dk_seg dksX1_book_4 24 rfl rfl
theorem dksX1_book_6 : cX1_book.data.toList.drop 141 = dktX1_book_6 := dk_seg dksX1_book_5 24 rfl rfl
theorem dX1_book_0 : decode cX1_book 0 = .ok (.aload_n 0, 1) := dk_42 (dk_at dksX1_book_0 0 rfl rfl)
theorem dX1_book_1 : decode cX1_book 1 = .ok (.iload_n 1, 1) := dk_27 (dk_at dksX1_book_0 1 rfl rfl)
theorem dX1_book_2 : decode cX1_book 2 = .ok (.iconst 0, 1) := dk_3 (dk_at dksX1_book_0 2 rfl rfl)
theorem dX1_book_3 : decode cX1_book 3 = .ok (.aload_n 0, 1) := dk_42 (dk_at dksX1_book_0 3 rfl rfl)
theorem dX1_book_4 : decode cX1_book 4 = .ok (.getfield 109, 3) := dk_180 0 109 (dk_at dksX1_book_0 4 rfl rfl)
theorem dX1_book_7 : decode cX1_book 7 = .ok (.bipush 40, 2) := dk_16 40 (dk_at dksX1_book_0 7 rfl rfl)
theorem dX1_book_9 : decode cX1_book 9 = .ok (.invokestatic 157, 3) := dk_184 0 157 (dk_at dksX1_book_0 9 rfl rfl)
theorem dX1_book_12 : decode cX1_book 12 = .ok (.invokevirtual 125, 3) := dk_182 0 125 (dk_at dksX1_book_0 12 rfl rfl)
theorem dX1_book_15 : decode cX1_book 15 = .ok (.iconst 3, 1) := dk_6 (dk_at dksX1_book_0 15 rfl rfl)
theorem dX1_book_16 : decode cX1_book 16 = .ok (.newarray .int, 2) := dk_188_10 (dk_at dksX1_book_0 16 rfl rfl)
theorem dX1_book_18 : decode cX1_book 18 = .ok (.dup, 1) := dk_89 (dk_at dksX1_book_0 18 rfl rfl)
theorem dX1_book_19 : decode cX1_book 19 = .ok (.iconst 0, 1) := dk_3 (dk_at dksX1_book_0 19 rfl rfl)
theorem dX1_book_20 : decode cX1_book 20 = .ok (.iconst (-1), 1) := dk_2 (dk_at dksX1_book_0 20 rfl rfl)
theorem dX1_book_21 : decode cX1_book 21 = .ok (.iastore, 1) := dk_79 (dk_at dksX1_book_0 21 rfl rfl)
theorem dX1_book_22 : decode cX1_book 22 = .ok (.dup, 1) := dk_89 (dk_at dksX1_book_0 22 rfl rfl)
theorem dX1_book_23 : decode cX1_book 23 = .ok (.iconst 1, 1) := dk_4 (dk_at dksX1_book_0 23 rfl rfl)
theorem dX1_book_24 : decode cX1_book 24 = .ok (.iconst (-1), 1) := dk_2 (dk_at dksX1_book_1 0 rfl rfl)
theorem dX1_book_25 : decode cX1_book 25 = .ok (.iastore, 1) := dk_79 (dk_at dksX1_book_1 1 rfl rfl)
theorem dX1_book_26 : decode cX1_book 26 = .ok (.dup, 1) := dk_89 (dk_at dksX1_book_1 2 rfl rfl)
theorem dX1_book_27 : decode cX1_book 27 = .ok (.iconst 2, 1) := dk_5 (dk_at dksX1_book_1 3 rfl rfl)
theorem dX1_book_28 : decode cX1_book 28 = .ok (.iconst (-1), 1) := dk_2 (dk_at dksX1_book_1 4 rfl rfl)
theorem dX1_book_29 : decode cX1_book 29 = .ok (.iastore, 1) := dk_79 (dk_at dksX1_book_1 5 rfl rfl)
theorem dX1_book_30 : decode cX1_book 30 = .ok (.astore_n 2, 1) := dk_77 (dk_at dksX1_book_1 6 rfl rfl)
theorem dX1_book_31 : decode cX1_book 31 = .ok (.iconst 0, 1) := dk_3 (dk_at dksX1_book_1 7 rfl rfl)
theorem dX1_book_32 : decode cX1_book 32 = .ok (.istore_n 3, 1) := dk_62 (dk_at dksX1_book_1 8 rfl rfl)
theorem dX1_book_33 : decode cX1_book 33 = .ok (.aload_n 0, 1) := dk_42 (dk_at dksX1_book_1 9 rfl rfl)
theorem dX1_book_34 : decode cX1_book 34 = .ok (.iload_n 1, 1) := dk_27 (dk_at dksX1_book_1 10 rfl rfl)
theorem dX1_book_35 : decode cX1_book 35 = .ok (.invokevirtual 131, 3) := dk_182 0 131 (dk_at dksX1_book_1 11 rfl rfl)
theorem dX1_book_38 : decode cX1_book 38 = .ok (.astore 4, 2) := dk_58 4 (dk_at dksX1_book_1 14 rfl rfl)
theorem dX1_book_40 : decode cX1_book 40 = .ok (.aload 4, 2) := dk_25 4 (dk_at dksX1_book_1 16 rfl rfl)
theorem dX1_book_42 : decode cX1_book 42 = .ok (.invokevirtual 176, 3) := dk_182 0 176 (dk_at dksX1_book_1 18 rfl rfl)
theorem dX1_book_45 : decode cX1_book 45 = .ok (.iconst (-1), 1) := dk_2 (dk_at dksX1_book_1 21 rfl rfl)
theorem dX1_book_46 : decode cX1_book 46 = .ok (.if_icmp .eq 66, 3) := dk_159 0 66 (dk_at dksX1_book_2 0 rfl rfl)
theorem dX1_book_49 : decode cX1_book 49 = .ok (.aload 4, 2) := dk_25 4 (dk_at dksX1_book_2 3 rfl rfl)
theorem dX1_book_51 : decode cX1_book 51 = .ok (.invokevirtual 180, 3) := dk_182 0 180 (dk_at dksX1_book_2 5 rfl rfl)
theorem dX1_book_54 : decode cX1_book 54 = .ok (.istore 5, 2) := dk_54 5 (dk_at dksX1_book_2 8 rfl rfl)
theorem dX1_book_56 : decode cX1_book 56 = .ok (.aload 4, 2) := dk_25 4 (dk_at dksX1_book_2 10 rfl rfl)
theorem dX1_book_58 : decode cX1_book 58 = .ok (.iconst 0, 1) := dk_3 (dk_at dksX1_book_2 12 rfl rfl)
theorem dX1_book_59 : decode cX1_book 59 = .ok (.iconst 2, 1) := dk_5 (dk_at dksX1_book_2 13 rfl rfl)
theorem dX1_book_60 : decode cX1_book 60 = .ok (.invokevirtual 182, 3) := dk_182 0 182 (dk_at dksX1_book_2 14 rfl rfl)
theorem dX1_book_63 : decode cX1_book 63 = .ok (.istore 6, 2) := dk_54 6 (dk_at dksX1_book_2 17 rfl rfl)
theorem dX1_book_65 : decode cX1_book 65 = .ok (.aload_n 2, 1) := dk_44 (dk_at dksX1_book_2 19 rfl rfl)
theorem dX1_book_66 : decode cX1_book 66 = .ok (.iload 6, 2) := dk_21 6 (dk_at dksX1_book_2 20 rfl rfl)
theorem dX1_book_68 : decode cX1_book 68 = .ok (.iaload, 1) := dk_46 (dk_at dksX1_book_2 22 rfl rfl)
theorem dX1_book_69 : decode cX1_book 69 = .ok (.iconst (-1), 1) := dk_2 (dk_at dksX1_book_2 23 rfl rfl)
theorem dX1_book_70 : decode cX1_book 70 = .ok (.if_icmp .eq 14, 3) := dk_159 0 14 (dk_at dksX1_book_3 0 rfl rfl)
theorem dX1_book_73 : decode cX1_book 73 = .ok (.new 118, 3) := dk_187 0 118 (dk_at dksX1_book_3 3 rfl rfl)
theorem dX1_book_76 : decode cX1_book 76 = .ok (.dup, 1) := dk_89 (dk_at dksX1_book_3 6 rfl rfl)
theorem dX1_book_77 : decode cX1_book 77 = .ok (.iconst 2, 1) := dk_5 (dk_at dksX1_book_3 7 rfl rfl)
theorem dX1_book_78 : decode cX1_book 78 = .ok (.iload 5, 2) := dk_21 5 (dk_at dksX1_book_3 8 rfl rfl)
theorem dX1_book_80 : decode cX1_book 80 = .ok (.invokespecial 185, 3) := dk_183 0 185 (dk_at dksX1_book_3 10 rfl rfl)
theorem dX1_book_83 : decode cX1_book 83 = .ok (.athrow, 1) := dk_191 (dk_at dksX1_book_3 13 rfl rfl)
theorem dX1_book_84 : decode cX1_book 84 = .ok (.aload 4, 2) := dk_25 4 (dk_at dksX1_book_3 14 rfl rfl)
theorem dX1_book_86 : decode cX1_book 86 = .ok (.iconst 0, 1) := dk_3 (dk_at dksX1_book_3 16 rfl rfl)
theorem dX1_book_87 : decode cX1_book 87 = .ok (.iconst 1, 1) := dk_4 (dk_at dksX1_book_3 17 rfl rfl)
theorem dX1_book_88 : decode cX1_book 88 = .ok (.invokevirtual 182, 3) := dk_182 0 182 (dk_at dksX1_book_3 18 rfl rfl)
theorem dX1_book_91 : decode cX1_book 91 = .ok (.istore 7, 2) := dk_54 7 (dk_at dksX1_book_3 21 rfl rfl)
theorem dX1_book_93 : decode cX1_book 93 = .ok (.aload 4, 2) := dk_25 4 (dk_at dksX1_book_4 0 rfl rfl)
theorem dX1_book_95 : decode cX1_book 95 = .ok (.bipush 59, 2) := dk_16 59 (dk_at dksX1_book_4 2 rfl rfl)
theorem dX1_book_97 : decode cX1_book 97 = .ok (.invokevirtual 187, 3) := dk_182 0 187 (dk_at dksX1_book_4 4 rfl rfl)
theorem dX1_book_100 : decode cX1_book 100 = .ok (.aload_n 2, 1) := dk_44 (dk_at dksX1_book_4 7 rfl rfl)
theorem dX1_book_101 : decode cX1_book 101 = .ok (.iload 6, 2) := dk_21 6 (dk_at dksX1_book_4 8 rfl rfl)
theorem dX1_book_103 : decode cX1_book 103 = .ok (.iload 7, 2) := dk_21 7 (dk_at dksX1_book_4 10 rfl rfl)
theorem dX1_book_105 : decode cX1_book 105 = .ok (.iastore, 1) := dk_79 (dk_at dksX1_book_4 12 rfl rfl)
theorem dX1_book_106 : decode cX1_book 106 = .ok (.iinc 3 1, 3) := dk_132 3 1 (dk_at dksX1_book_4 13 rfl rfl)
theorem dX1_book_109 : decode cX1_book 109 = .ok (.goto (-69), 3) := dk_167 255 187 (dk_at dksX1_book_4 16 rfl rfl)
theorem dX1_book_112 : decode cX1_book 112 = .ok (.goto 12, 3) := dk_167 0 12 (dk_at dksX1_book_4 19 rfl rfl)
theorem dX1_book_115 : decode cX1_book 115 = .ok (.astore 4, 2) := dk_58 4 (dk_at dksX1_book_4 22 rfl rfl)
theorem dX1_book_117 : decode cX1_book 117 = .ok (.aload_n 0, 1) := dk_42 (dk_at dksX1_book_5 0 rfl rfl)
theorem dX1_book_118 : decode cX1_book 118 = .ok (.aload 4, 2) := dk_25 4 (dk_at dksX1_book_5 1 rfl rfl)
theorem dX1_book_120 : decode cX1_book 120 = .ok (.invokevirtual 142, 3) := dk_182 0 142 (dk_at dksX1_book_5 3 rfl rfl)
theorem dX1_book_123 : decode cX1_book 123 = .ok (.ireturn, 1) := dk_172 (dk_at dksX1_book_5 6 rfl rfl)
theorem dX1_book_124 : decode cX1_book 124 = .ok (.aload_n 0, 1) := dk_42 (dk_at dksX1_book_5 7 rfl rfl)
theorem dX1_book_125 : decode cX1_book 125 = .ok (.iload_n 3, 1) := dk_29 (dk_at dksX1_book_5 8 rfl rfl)
theorem dX1_book_126 : decode cX1_book 126 = .ok (.putfield 150, 3) := dk_181 0 150 (dk_at dksX1_book_5 9 rfl rfl)
theorem dX1_book_129 : decode cX1_book 129 = .ok (.aload_n 2, 1) := dk_44 (dk_at dksX1_book_5 12 rfl rfl)
theorem dX1_book_130 : decode cX1_book 130 = .ok (.iconst 0, 1) := dk_3 (dk_at dksX1_book_5 13 rfl rfl)
theorem dX1_book_131 : decode cX1_book 131 = .ok (.aload_n 0, 1) := dk_42 (dk_at dksX1_book_5 14 rfl rfl)
theorem dX1_book_132 : decode cX1_book 132 = .ok (.getfield 43, 3) := dk_180 0 43 (dk_at dksX1_book_5 15 rfl rfl)
theorem dX1_book_135 : decode cX1_book 135 = .ok (.iconst 0, 1) := dk_3 (dk_at dksX1_book_5 18 rfl rfl)
theorem dX1_book_136 : decode cX1_book 136 = .ok (.iconst 3, 1) := dk_6 (dk_at dksX1_book_5 19 rfl rfl)
theorem dX1_book_137 : decode cX1_book 137 = .ok (.invokestatic 191, 3) := dk_184 0 191 (dk_at dksX1_book_5 20 rfl rfl)
theorem dX1_book_140 : decode cX1_book 140 = .ok (.iload_n 3, 1) := dk_29 (dk_at dksX1_book_5 23 rfl rfl)
theorem dX1_book_141 : decode cX1_book 141 = .ok (.ireturn, 1) := dk_172 (dk_at dksX1_book_6 0 rfl rfl)
abbrev cX1_told : ByteArray := prog_1_method_18_code
def yX1_told : MethodName := ⟨RX1, "told", "(I)I"⟩
def dkwX1_told_4 : List UInt8 := [42, 180, 0, 150, 172, 42, 180, 0, 79, 180, 0, 206, 172, 42, 180, 0, 79, 180, 0, 209, 172]
abbrev dktX1_told_4 : List UInt8 := dkwX1_told_4 ++ []
def dkwX1_told_3 : List UInt8 := [42, 180, 0, 79, 180, 0, 200, 172, 42, 180, 0, 79, 180, 0, 203, 172, 42, 180, 0, 23, 180, 0, 100, 172]
abbrev dktX1_told_3 : List UInt8 := dkwX1_told_3 ++ dktX1_told_4
def dkwX1_told_2 : List UInt8 := [42, 180, 0, 79, 180, 0, 97, 172, 42, 180, 0, 79, 180, 0, 90, 172, 42, 180, 0, 79, 180, 0, 197, 172]
abbrev dktX1_told_2 : List UInt8 := dkwX1_told_2 ++ dktX1_told_3
def dkwX1_told_1 : List UInt8 := [170, 0, 0, 0, 0, 0, 108, 0, 0, 0, 0, 0, 0, 0, 7, 0, 0, 0, 47, 0, 0, 0, 55, 0, 0, 0, 63, 0, 0, 0, 71, 0, 0, 0, 79, 0, 0, 0, 87, 0, 0, 0, 95, 0, 0, 0, 100]
abbrev dktX1_told_1 : List UInt8 := dkwX1_told_1 ++ dktX1_told_2
def dkwX1_told_0 : List UInt8 := [42, 27, 3, 16, 8, 182, 0, 125, 27]
abbrev dktX1_told_0 : List UInt8 := dkwX1_told_0 ++ dktX1_told_1
theorem dksX1_told_0 : cX1_told.data.toList.drop 0 = dktX1_told_0 := by decide +kernel
theorem dksX1_told_1 : cX1_told.data.toList.drop 9 = dktX1_told_1 := dk_seg dksX1_told_0 9 rfl rfl
theorem dksX1_told_2 : cX1_told.data.toList.drop 56 = dktX1_told_2 := dk_seg dksX1_told_1 47 rfl rfl
theorem dksX1_told_3 : cX1_told.data.toList.drop 80 = dktX1_told_3 := dk_seg dksX1_told_2 24 rfl rfl
theorem dksX1_told_4 : cX1_told.data.toList.drop 104 = dktX1_told_4 := dk_seg dksX1_told_3 24 rfl rfl
theorem dX1_told_0 : decode cX1_told 0 = .ok (.aload_n 0, 1) := dk_42 (dk_at dksX1_told_0 0 rfl rfl)
theorem dX1_told_1 : decode cX1_told 1 = .ok (.iload_n 1, 1) := dk_27 (dk_at dksX1_told_0 1 rfl rfl)
theorem dX1_told_2 : decode cX1_told 2 = .ok (.iconst 0, 1) := dk_3 (dk_at dksX1_told_0 2 rfl rfl)
theorem dX1_told_3 : decode cX1_told 3 = .ok (.bipush 8, 2) := dk_16 8 (dk_at dksX1_told_0 3 rfl rfl)
theorem dX1_told_5 : decode cX1_told 5 = .ok (.invokevirtual 125, 3) := dk_182 0 125 (dk_at dksX1_told_0 5 rfl rfl)
theorem dX1_told_8 : decode cX1_told 8 = .ok (.iload_n 1, 1) := dk_27 (dk_at dksX1_told_0 8 rfl rfl)
theorem dX1_told_9 : decode cX1_told 9 = .ok (.tableswitch 108 0 7 #[47, 55, 63, 71, 79, 87, 95, 100], 47) := by decide +kernel
theorem dX1_told_56 : decode cX1_told 56 = .ok (.aload_n 0, 1) := dk_42 (dk_at dksX1_told_2 0 rfl rfl)
theorem dX1_told_57 : decode cX1_told 57 = .ok (.getfield 79, 3) := dk_180 0 79 (dk_at dksX1_told_2 1 rfl rfl)
theorem dX1_told_60 : decode cX1_told 60 = .ok (.getfield 97, 3) := dk_180 0 97 (dk_at dksX1_told_2 4 rfl rfl)
theorem dX1_told_63 : decode cX1_told 63 = .ok (.ireturn, 1) := dk_172 (dk_at dksX1_told_2 7 rfl rfl)
theorem dX1_told_64 : decode cX1_told 64 = .ok (.aload_n 0, 1) := dk_42 (dk_at dksX1_told_2 8 rfl rfl)
theorem dX1_told_65 : decode cX1_told 65 = .ok (.getfield 79, 3) := dk_180 0 79 (dk_at dksX1_told_2 9 rfl rfl)
theorem dX1_told_68 : decode cX1_told 68 = .ok (.getfield 90, 3) := dk_180 0 90 (dk_at dksX1_told_2 12 rfl rfl)
theorem dX1_told_71 : decode cX1_told 71 = .ok (.ireturn, 1) := dk_172 (dk_at dksX1_told_2 15 rfl rfl)
theorem dX1_told_72 : decode cX1_told 72 = .ok (.aload_n 0, 1) := dk_42 (dk_at dksX1_told_2 16 rfl rfl)
theorem dX1_told_73 : decode cX1_told 73 = .ok (.getfield 79, 3) := dk_180 0 79 (dk_at dksX1_told_2 17 rfl rfl)
theorem dX1_told_76 : decode cX1_told 76 = .ok (.getfield 197, 3) := dk_180 0 197 (dk_at dksX1_told_2 20 rfl rfl)
theorem dX1_told_79 : decode cX1_told 79 = .ok (.ireturn, 1) := dk_172 (dk_at dksX1_told_2 23 rfl rfl)
theorem dX1_told_80 : decode cX1_told 80 = .ok (.aload_n 0, 1) := dk_42 (dk_at dksX1_told_3 0 rfl rfl)
theorem dX1_told_81 : decode cX1_told 81 = .ok (.getfield 79, 3) := dk_180 0 79 (dk_at dksX1_told_3 1 rfl rfl)
theorem dX1_told_84 : decode cX1_told 84 = .ok (.getfield 200, 3) := dk_180 0 200 (dk_at dksX1_told_3 4 rfl rfl)
theorem dX1_told_87 : decode cX1_told 87 = .ok (.ireturn, 1) := dk_172 (dk_at dksX1_told_3 7 rfl rfl)
theorem dX1_told_88 : decode cX1_told 88 = .ok (.aload_n 0, 1) := dk_42 (dk_at dksX1_told_3 8 rfl rfl)
theorem dX1_told_89 : decode cX1_told 89 = .ok (.getfield 79, 3) := dk_180 0 79 (dk_at dksX1_told_3 9 rfl rfl)
theorem dX1_told_92 : decode cX1_told 92 = .ok (.getfield 203, 3) := dk_180 0 203 (dk_at dksX1_told_3 12 rfl rfl)
theorem dX1_told_95 : decode cX1_told 95 = .ok (.ireturn, 1) := dk_172 (dk_at dksX1_told_3 15 rfl rfl)
theorem dX1_told_96 : decode cX1_told 96 = .ok (.aload_n 0, 1) := dk_42 (dk_at dksX1_told_3 16 rfl rfl)
theorem dX1_told_97 : decode cX1_told 97 = .ok (.getfield 23, 3) := dk_180 0 23 (dk_at dksX1_told_3 17 rfl rfl)
theorem dX1_told_100 : decode cX1_told 100 = .ok (.getfield 100, 3) := dk_180 0 100 (dk_at dksX1_told_3 20 rfl rfl)
theorem dX1_told_103 : decode cX1_told 103 = .ok (.ireturn, 1) := dk_172 (dk_at dksX1_told_3 23 rfl rfl)
theorem dX1_told_104 : decode cX1_told 104 = .ok (.aload_n 0, 1) := dk_42 (dk_at dksX1_told_4 0 rfl rfl)
theorem dX1_told_105 : decode cX1_told 105 = .ok (.getfield 150, 3) := dk_180 0 150 (dk_at dksX1_told_4 1 rfl rfl)
theorem dX1_told_108 : decode cX1_told 108 = .ok (.ireturn, 1) := dk_172 (dk_at dksX1_told_4 4 rfl rfl)
theorem dX1_told_109 : decode cX1_told 109 = .ok (.aload_n 0, 1) := dk_42 (dk_at dksX1_told_4 5 rfl rfl)
theorem dX1_told_110 : decode cX1_told 110 = .ok (.getfield 79, 3) := dk_180 0 79 (dk_at dksX1_told_4 6 rfl rfl)
theorem dX1_told_113 : decode cX1_told 113 = .ok (.getfield 206, 3) := dk_180 0 206 (dk_at dksX1_told_4 9 rfl rfl)
theorem dX1_told_116 : decode cX1_told 116 = .ok (.ireturn, 1) := dk_172 (dk_at dksX1_told_4 12 rfl rfl)
theorem dX1_told_117 : decode cX1_told 117 = .ok (.aload_n 0, 1) := dk_42 (dk_at dksX1_told_4 13 rfl rfl)
theorem dX1_told_118 : decode cX1_told 118 = .ok (.getfield 79, 3) := dk_180 0 79 (dk_at dksX1_told_4 14 rfl rfl)
theorem dX1_told_121 : decode cX1_told 121 = .ok (.getfield 209, 3) := dk_180 0 209 (dk_at dksX1_told_4 17 rfl rfl)
theorem dX1_told_124 : decode cX1_told 124 = .ok (.ireturn, 1) := dk_172 (dk_at dksX1_told_4 20 rfl rfl)
abbrev cX1_deed : ByteArray := prog_1_method_19_code
def yX1_deed : MethodName := ⟨RX1, "deed", "(II)I"⟩
def dkwX1_deed_4 : List UInt8 := [46, 172]
abbrev dktX1_deed_4 : List UInt8 := dkwX1_deed_4 ++ []
def dkwX1_deed_3 : List UInt8 := [180, 0, 222, 27, 46, 172, 42, 180, 0, 79, 180, 0, 225, 27, 46, 172, 42, 180, 0, 79, 180, 0, 228, 27]
abbrev dktX1_deed_3 : List UInt8 := dkwX1_deed_3 ++ dktX1_deed_4
def dkwX1_deed_2 : List UInt8 := [42, 180, 0, 79, 180, 0, 216, 27, 46, 172, 42, 180, 0, 79, 180, 0, 219, 27, 46, 172, 42, 180, 0, 79]
abbrev dktX1_deed_2 : List UInt8 := dkwX1_deed_2 ++ dktX1_deed_3
def dkwX1_deed_1 : List UInt8 := [170, 0, 0, 0, 0, 0, 71, 0, 0, 0, 0, 0, 0, 0, 3, 0, 0, 0, 31, 0, 0, 0, 41, 0, 0, 0, 51, 0, 0, 0, 61]
abbrev dktX1_deed_1 : List UInt8 := dkwX1_deed_1 ++ dktX1_deed_2
def dkwX1_deed_0 : List UInt8 := [42, 27, 182, 0, 212, 42, 28, 3, 7, 182, 0, 125, 28]
abbrev dktX1_deed_0 : List UInt8 := dkwX1_deed_0 ++ dktX1_deed_1
theorem dksX1_deed_0 : cX1_deed.data.toList.drop 0 = dktX1_deed_0 := by decide +kernel
theorem dksX1_deed_1 : cX1_deed.data.toList.drop 13 = dktX1_deed_1 := dk_seg dksX1_deed_0 13 rfl rfl
theorem dksX1_deed_2 : cX1_deed.data.toList.drop 44 = dktX1_deed_2 := dk_seg dksX1_deed_1 31 rfl rfl
theorem dksX1_deed_3 : cX1_deed.data.toList.drop 68 = dktX1_deed_3 := dk_seg dksX1_deed_2 24 rfl rfl
theorem dksX1_deed_4 : cX1_deed.data.toList.drop 92 = dktX1_deed_4 := dk_seg dksX1_deed_3 24 rfl rfl
theorem dX1_deed_0 : decode cX1_deed 0 = .ok (.aload_n 0, 1) := dk_42 (dk_at dksX1_deed_0 0 rfl rfl)
theorem dX1_deed_1 : decode cX1_deed 1 = .ok (.iload_n 1, 1) := dk_27 (dk_at dksX1_deed_0 1 rfl rfl)
theorem dX1_deed_2 : decode cX1_deed 2 = .ok (.invokevirtual 212, 3) := dk_182 0 212 (dk_at dksX1_deed_0 2 rfl rfl)
theorem dX1_deed_5 : decode cX1_deed 5 = .ok (.aload_n 0, 1) := dk_42 (dk_at dksX1_deed_0 5 rfl rfl)
theorem dX1_deed_6 : decode cX1_deed 6 = .ok (.iload_n 2, 1) := dk_28 (dk_at dksX1_deed_0 6 rfl rfl)
theorem dX1_deed_7 : decode cX1_deed 7 = .ok (.iconst 0, 1) := dk_3 (dk_at dksX1_deed_0 7 rfl rfl)
theorem dX1_deed_8 : decode cX1_deed 8 = .ok (.iconst 4, 1) := dk_7 (dk_at dksX1_deed_0 8 rfl rfl)
theorem dX1_deed_9 : decode cX1_deed 9 = .ok (.invokevirtual 125, 3) := dk_182 0 125 (dk_at dksX1_deed_0 9 rfl rfl)
theorem dX1_deed_12 : decode cX1_deed 12 = .ok (.iload_n 2, 1) := dk_28 (dk_at dksX1_deed_0 12 rfl rfl)
theorem dX1_deed_13 : decode cX1_deed 13 = .ok (.tableswitch 71 0 3 #[31, 41, 51, 61], 31) := by decide +kernel
theorem dX1_deed_44 : decode cX1_deed 44 = .ok (.aload_n 0, 1) := dk_42 (dk_at dksX1_deed_2 0 rfl rfl)
theorem dX1_deed_45 : decode cX1_deed 45 = .ok (.getfield 79, 3) := dk_180 0 79 (dk_at dksX1_deed_2 1 rfl rfl)
theorem dX1_deed_48 : decode cX1_deed 48 = .ok (.getfield 216, 3) := dk_180 0 216 (dk_at dksX1_deed_2 4 rfl rfl)
theorem dX1_deed_51 : decode cX1_deed 51 = .ok (.iload_n 1, 1) := dk_27 (dk_at dksX1_deed_2 7 rfl rfl)
theorem dX1_deed_52 : decode cX1_deed 52 = .ok (.iaload, 1) := dk_46 (dk_at dksX1_deed_2 8 rfl rfl)
theorem dX1_deed_53 : decode cX1_deed 53 = .ok (.ireturn, 1) := dk_172 (dk_at dksX1_deed_2 9 rfl rfl)
theorem dX1_deed_54 : decode cX1_deed 54 = .ok (.aload_n 0, 1) := dk_42 (dk_at dksX1_deed_2 10 rfl rfl)
theorem dX1_deed_55 : decode cX1_deed 55 = .ok (.getfield 79, 3) := dk_180 0 79 (dk_at dksX1_deed_2 11 rfl rfl)
theorem dX1_deed_58 : decode cX1_deed 58 = .ok (.getfield 219, 3) := dk_180 0 219 (dk_at dksX1_deed_2 14 rfl rfl)
theorem dX1_deed_61 : decode cX1_deed 61 = .ok (.iload_n 1, 1) := dk_27 (dk_at dksX1_deed_2 17 rfl rfl)
theorem dX1_deed_62 : decode cX1_deed 62 = .ok (.iaload, 1) := dk_46 (dk_at dksX1_deed_2 18 rfl rfl)
theorem dX1_deed_63 : decode cX1_deed 63 = .ok (.ireturn, 1) := dk_172 (dk_at dksX1_deed_2 19 rfl rfl)
theorem dX1_deed_64 : decode cX1_deed 64 = .ok (.aload_n 0, 1) := dk_42 (dk_at dksX1_deed_2 20 rfl rfl)
theorem dX1_deed_65 : decode cX1_deed 65 = .ok (.getfield 79, 3) := dk_180 0 79 (dk_at dksX1_deed_2 21 rfl rfl)
theorem dX1_deed_68 : decode cX1_deed 68 = .ok (.getfield 222, 3) := dk_180 0 222 (dk_at dksX1_deed_3 0 rfl rfl)
theorem dX1_deed_71 : decode cX1_deed 71 = .ok (.iload_n 1, 1) := dk_27 (dk_at dksX1_deed_3 3 rfl rfl)
theorem dX1_deed_72 : decode cX1_deed 72 = .ok (.iaload, 1) := dk_46 (dk_at dksX1_deed_3 4 rfl rfl)
theorem dX1_deed_73 : decode cX1_deed 73 = .ok (.ireturn, 1) := dk_172 (dk_at dksX1_deed_3 5 rfl rfl)
theorem dX1_deed_74 : decode cX1_deed 74 = .ok (.aload_n 0, 1) := dk_42 (dk_at dksX1_deed_3 6 rfl rfl)
theorem dX1_deed_75 : decode cX1_deed 75 = .ok (.getfield 79, 3) := dk_180 0 79 (dk_at dksX1_deed_3 7 rfl rfl)
theorem dX1_deed_78 : decode cX1_deed 78 = .ok (.getfield 225, 3) := dk_180 0 225 (dk_at dksX1_deed_3 10 rfl rfl)
theorem dX1_deed_81 : decode cX1_deed 81 = .ok (.iload_n 1, 1) := dk_27 (dk_at dksX1_deed_3 13 rfl rfl)
theorem dX1_deed_82 : decode cX1_deed 82 = .ok (.iaload, 1) := dk_46 (dk_at dksX1_deed_3 14 rfl rfl)
theorem dX1_deed_83 : decode cX1_deed 83 = .ok (.ireturn, 1) := dk_172 (dk_at dksX1_deed_3 15 rfl rfl)
theorem dX1_deed_84 : decode cX1_deed 84 = .ok (.aload_n 0, 1) := dk_42 (dk_at dksX1_deed_3 16 rfl rfl)
theorem dX1_deed_85 : decode cX1_deed 85 = .ok (.getfield 79, 3) := dk_180 0 79 (dk_at dksX1_deed_3 17 rfl rfl)
theorem dX1_deed_88 : decode cX1_deed 88 = .ok (.getfield 228, 3) := dk_180 0 228 (dk_at dksX1_deed_3 20 rfl rfl)
theorem dX1_deed_91 : decode cX1_deed 91 = .ok (.iload_n 1, 1) := dk_27 (dk_at dksX1_deed_3 23 rfl rfl)
theorem dX1_deed_92 : decode cX1_deed 92 = .ok (.iaload, 1) := dk_46 (dk_at dksX1_deed_4 0 rfl rfl)
theorem dX1_deed_93 : decode cX1_deed 93 = .ok (.ireturn, 1) := dk_172 (dk_at dksX1_deed_4 1 rfl rfl)
abbrev cX1_deedOf : ByteArray := prog_1_method_5_code
def yX1_deedOf : MethodName := ⟨RX1, "deedOf", "(I)V"⟩
def dkwX1_deedOf_0 : List UInt8 := [42, 27, 42, 180, 0, 79, 180, 0, 90, 182, 0, 93, 177]
abbrev dktX1_deedOf_0 : List UInt8 := dkwX1_deedOf_0 ++ []
theorem dksX1_deedOf_0 : cX1_deedOf.data.toList.drop 0 = dktX1_deedOf_0 := by decide +kernel
theorem dX1_deedOf_0 : decode cX1_deedOf 0 = .ok (.aload_n 0, 1) := dk_42 (dk_at dksX1_deedOf_0 0 rfl rfl)
theorem dX1_deedOf_1 : decode cX1_deedOf 1 = .ok (.iload_n 1, 1) := dk_27 (dk_at dksX1_deedOf_0 1 rfl rfl)
theorem dX1_deedOf_2 : decode cX1_deedOf 2 = .ok (.aload_n 0, 1) := dk_42 (dk_at dksX1_deedOf_0 2 rfl rfl)
theorem dX1_deedOf_3 : decode cX1_deedOf 3 = .ok (.getfield 79, 3) := dk_180 0 79 (dk_at dksX1_deedOf_0 3 rfl rfl)
theorem dX1_deedOf_6 : decode cX1_deedOf 6 = .ok (.getfield 90, 3) := dk_180 0 90 (dk_at dksX1_deedOf_0 6 rfl rfl)
theorem dX1_deedOf_9 : decode cX1_deedOf 9 = .ok (.invokevirtual 93, 3) := dk_182 0 93 (dk_at dksX1_deedOf_0 9 rfl rfl)
theorem dX1_deedOf_12 : decode cX1_deedOf 12 = .ok (.return_, 1) := dk_177 (dk_at dksX1_deedOf_0 12 rfl rfl)
abbrev cX1_isThere : ByteArray := prog_1_method_4_code
def yX1_isThere : MethodName := ⟨RX1, "isThere", "(II)V"⟩
def dkwX1_isThere_1 : List UInt8 := [183, 0, 89, 191]
abbrev dktX1_isThere_1 : List UInt8 := dkwX1_isThere_1 ++ []
def dkwX1_isThere_0 : List UInt8 := [27, 155, 0, 9, 27, 28, 162, 0, 4, 177, 42, 180, 0, 40, 3, 92, 46, 4, 96, 79, 187, 0, 87, 89]
abbrev dktX1_isThere_0 : List UInt8 := dkwX1_isThere_0 ++ dktX1_isThere_1
theorem dksX1_isThere_0 : cX1_isThere.data.toList.drop 0 = dktX1_isThere_0 := by decide +kernel
theorem dksX1_isThere_1 : cX1_isThere.data.toList.drop 24 = dktX1_isThere_1 := dk_seg dksX1_isThere_0 24 rfl rfl
theorem dX1_isThere_0 : decode cX1_isThere 0 = .ok (.iload_n 1, 1) := dk_27 (dk_at dksX1_isThere_0 0 rfl rfl)
theorem dX1_isThere_1 : decode cX1_isThere 1 = .ok (.ifCond .lt 9, 3) := dk_155 0 9 (dk_at dksX1_isThere_0 1 rfl rfl)
theorem dX1_isThere_4 : decode cX1_isThere 4 = .ok (.iload_n 1, 1) := dk_27 (dk_at dksX1_isThere_0 4 rfl rfl)
theorem dX1_isThere_5 : decode cX1_isThere 5 = .ok (.iload_n 2, 1) := dk_28 (dk_at dksX1_isThere_0 5 rfl rfl)
theorem dX1_isThere_6 : decode cX1_isThere 6 = .ok (.if_icmp .ge 4, 3) := dk_162 0 4 (dk_at dksX1_isThere_0 6 rfl rfl)
theorem dX1_isThere_9 : decode cX1_isThere 9 = .ok (.return_, 1) := dk_177 (dk_at dksX1_isThere_0 9 rfl rfl)
theorem dX1_isThere_10 : decode cX1_isThere 10 = .ok (.aload_n 0, 1) := dk_42 (dk_at dksX1_isThere_0 10 rfl rfl)
theorem dX1_isThere_11 : decode cX1_isThere 11 = .ok (.getfield 40, 3) := dk_180 0 40 (dk_at dksX1_isThere_0 11 rfl rfl)
theorem dX1_isThere_14 : decode cX1_isThere 14 = .ok (.iconst 0, 1) := dk_3 (dk_at dksX1_isThere_0 14 rfl rfl)
theorem dX1_isThere_15 : decode cX1_isThere 15 = .ok (.dup2, 1) := dk_92 (dk_at dksX1_isThere_0 15 rfl rfl)
theorem dX1_isThere_16 : decode cX1_isThere 16 = .ok (.iaload, 1) := dk_46 (dk_at dksX1_isThere_0 16 rfl rfl)
theorem dX1_isThere_17 : decode cX1_isThere 17 = .ok (.iconst 1, 1) := dk_4 (dk_at dksX1_isThere_0 17 rfl rfl)
theorem dX1_isThere_18 : decode cX1_isThere 18 = .ok (.iadd, 1) := dk_96 (dk_at dksX1_isThere_0 18 rfl rfl)
theorem dX1_isThere_19 : decode cX1_isThere 19 = .ok (.iastore, 1) := dk_79 (dk_at dksX1_isThere_0 19 rfl rfl)
theorem dX1_isThere_20 : decode cX1_isThere 20 = .ok (.new 87, 3) := dk_187 0 87 (dk_at dksX1_isThere_0 20 rfl rfl)
theorem dX1_isThere_23 : decode cX1_isThere 23 = .ok (.dup, 1) := dk_89 (dk_at dksX1_isThere_0 23 rfl rfl)
theorem dX1_isThere_24 : decode cX1_isThere 24 = .ok (.invokespecial 89, 3) := dk_183 0 89 (dk_at dksX1_isThere_1 0 rfl rfl)
theorem dX1_isThere_27 : decode cX1_isThere 27 = .ok (.athrow, 1) := dk_191 (dk_at dksX1_isThere_1 3 rfl rfl)
abbrev cX1_strong : ByteArray := prog_1_method_20_code
def yX1_strong : MethodName := ⟨RX1, "strong", "(I)I"⟩
def dkwX1_strong_0 : List UInt8 := [42, 27, 182, 0, 231, 42, 180, 0, 79, 180, 0, 234, 27, 46, 172]
abbrev dktX1_strong_0 : List UInt8 := dkwX1_strong_0 ++ []
theorem dksX1_strong_0 : cX1_strong.data.toList.drop 0 = dktX1_strong_0 := by decide +kernel
theorem dX1_strong_0 : decode cX1_strong 0 = .ok (.aload_n 0, 1) := dk_42 (dk_at dksX1_strong_0 0 rfl rfl)
theorem dX1_strong_1 : decode cX1_strong 1 = .ok (.iload_n 1, 1) := dk_27 (dk_at dksX1_strong_0 1 rfl rfl)
theorem dX1_strong_2 : decode cX1_strong 2 = .ok (.invokevirtual 231, 3) := dk_182 0 231 (dk_at dksX1_strong_0 2 rfl rfl)
theorem dX1_strong_5 : decode cX1_strong 5 = .ok (.aload_n 0, 1) := dk_42 (dk_at dksX1_strong_0 5 rfl rfl)
theorem dX1_strong_6 : decode cX1_strong 6 = .ok (.getfield 79, 3) := dk_180 0 79 (dk_at dksX1_strong_0 6 rfl rfl)
theorem dX1_strong_9 : decode cX1_strong 9 = .ok (.getfield 234, 3) := dk_180 0 234 (dk_at dksX1_strong_0 9 rfl rfl)
theorem dX1_strong_12 : decode cX1_strong 12 = .ok (.iload_n 1, 1) := dk_27 (dk_at dksX1_strong_0 12 rfl rfl)
theorem dX1_strong_13 : decode cX1_strong 13 = .ok (.iaload, 1) := dk_46 (dk_at dksX1_strong_0 13 rfl rfl)
theorem dX1_strong_14 : decode cX1_strong 14 = .ok (.ireturn, 1) := dk_172 (dk_at dksX1_strong_0 14 rfl rfl)
abbrev cX1_personOf : ByteArray := prog_1_method_6_code
def yX1_personOf : MethodName := ⟨RX1, "personOf", "(I)V"⟩
def dkwX1_personOf_0 : List UInt8 := [42, 27, 42, 180, 0, 79, 180, 0, 97, 182, 0, 93, 177]
abbrev dktX1_personOf_0 : List UInt8 := dkwX1_personOf_0 ++ []
theorem dksX1_personOf_0 : cX1_personOf.data.toList.drop 0 = dktX1_personOf_0 := by decide +kernel
theorem dX1_personOf_0 : decode cX1_personOf 0 = .ok (.aload_n 0, 1) := dk_42 (dk_at dksX1_personOf_0 0 rfl rfl)
theorem dX1_personOf_1 : decode cX1_personOf 1 = .ok (.iload_n 1, 1) := dk_27 (dk_at dksX1_personOf_0 1 rfl rfl)
theorem dX1_personOf_2 : decode cX1_personOf 2 = .ok (.aload_n 0, 1) := dk_42 (dk_at dksX1_personOf_0 2 rfl rfl)
theorem dX1_personOf_3 : decode cX1_personOf 3 = .ok (.getfield 79, 3) := dk_180 0 79 (dk_at dksX1_personOf_0 3 rfl rfl)
theorem dX1_personOf_6 : decode cX1_personOf 6 = .ok (.getfield 97, 3) := dk_180 0 97 (dk_at dksX1_personOf_0 6 rfl rfl)
theorem dX1_personOf_9 : decode cX1_personOf 9 = .ok (.invokevirtual 93, 3) := dk_182 0 93 (dk_at dksX1_personOf_0 9 rfl rfl)
theorem dX1_personOf_12 : decode cX1_personOf 12 = .ok (.return_, 1) := dk_177 (dk_at dksX1_personOf_0 12 rfl rfl)
abbrev cX1_bears : ByteArray := prog_1_method_21_code
def yX1_bears : MethodName := ⟨RX1, "bears", "(I)I"⟩
def dkwX1_bears_0 : List UInt8 := [42, 27, 3, 16, 59, 182, 0, 125, 42, 180, 0, 79, 180, 0, 237, 27, 46, 172]
abbrev dktX1_bears_0 : List UInt8 := dkwX1_bears_0 ++ []
theorem dksX1_bears_0 : cX1_bears.data.toList.drop 0 = dktX1_bears_0 := by decide +kernel
theorem dX1_bears_0 : decode cX1_bears 0 = .ok (.aload_n 0, 1) := dk_42 (dk_at dksX1_bears_0 0 rfl rfl)
theorem dX1_bears_1 : decode cX1_bears 1 = .ok (.iload_n 1, 1) := dk_27 (dk_at dksX1_bears_0 1 rfl rfl)
theorem dX1_bears_2 : decode cX1_bears 2 = .ok (.iconst 0, 1) := dk_3 (dk_at dksX1_bears_0 2 rfl rfl)
theorem dX1_bears_3 : decode cX1_bears 3 = .ok (.bipush 59, 2) := dk_16 59 (dk_at dksX1_bears_0 3 rfl rfl)
theorem dX1_bears_5 : decode cX1_bears 5 = .ok (.invokevirtual 125, 3) := dk_182 0 125 (dk_at dksX1_bears_0 5 rfl rfl)
theorem dX1_bears_8 : decode cX1_bears 8 = .ok (.aload_n 0, 1) := dk_42 (dk_at dksX1_bears_0 8 rfl rfl)
theorem dX1_bears_9 : decode cX1_bears 9 = .ok (.getfield 79, 3) := dk_180 0 79 (dk_at dksX1_bears_0 9 rfl rfl)
theorem dX1_bears_12 : decode cX1_bears 12 = .ok (.getfield 237, 3) := dk_180 0 237 (dk_at dksX1_bears_0 12 rfl rfl)
theorem dX1_bears_15 : decode cX1_bears 15 = .ok (.iload_n 1, 1) := dk_27 (dk_at dksX1_bears_0 15 rfl rfl)
theorem dX1_bears_16 : decode cX1_bears 16 = .ok (.iaload, 1) := dk_46 (dk_at dksX1_bears_0 16 rfl rfl)
theorem dX1_bears_17 : decode cX1_bears 17 = .ok (.ireturn, 1) := dk_172 (dk_at dksX1_bears_0 17 rfl rfl)
abbrev cX1_rains : ByteArray := prog_1_method_22_code
def yX1_rains : MethodName := ⟨RX1, "rains", "(I)Z"⟩
def dkwX1_rains_0 : List UInt8 := [42, 27, 3, 17, 0, 240, 182, 0, 125, 42, 180, 0, 79, 27, 182, 0, 240, 172]
abbrev dktX1_rains_0 : List UInt8 := dkwX1_rains_0 ++ []
theorem dksX1_rains_0 : cX1_rains.data.toList.drop 0 = dktX1_rains_0 := by decide +kernel
theorem dX1_rains_0 : decode cX1_rains 0 = .ok (.aload_n 0, 1) := dk_42 (dk_at dksX1_rains_0 0 rfl rfl)
theorem dX1_rains_1 : decode cX1_rains 1 = .ok (.iload_n 1, 1) := dk_27 (dk_at dksX1_rains_0 1 rfl rfl)
theorem dX1_rains_2 : decode cX1_rains 2 = .ok (.iconst 0, 1) := dk_3 (dk_at dksX1_rains_0 2 rfl rfl)
theorem dX1_rains_3 : decode cX1_rains 3 = .ok (.sipush 240, 3) := dk_17 0 240 (dk_at dksX1_rains_0 3 rfl rfl)
theorem dX1_rains_6 : decode cX1_rains 6 = .ok (.invokevirtual 125, 3) := dk_182 0 125 (dk_at dksX1_rains_0 6 rfl rfl)
theorem dX1_rains_9 : decode cX1_rains 9 = .ok (.aload_n 0, 1) := dk_42 (dk_at dksX1_rains_0 9 rfl rfl)
theorem dX1_rains_10 : decode cX1_rains 10 = .ok (.getfield 79, 3) := dk_180 0 79 (dk_at dksX1_rains_0 10 rfl rfl)
theorem dX1_rains_13 : decode cX1_rains 13 = .ok (.iload_n 1, 1) := dk_27 (dk_at dksX1_rains_0 13 rfl rfl)
theorem dX1_rains_14 : decode cX1_rains 14 = .ok (.invokevirtual 240, 3) := dk_182 0 240 (dk_at dksX1_rains_0 14 rfl rfl)
theorem dX1_rains_17 : decode cX1_rains 17 = .ok (.ireturn, 1) := dk_172 (dk_at dksX1_rains_0 17 rfl rfl)
abbrev cX1_would : ByteArray := prog_1_method_23_code
def yX1_would : MethodName := ⟨RX1, "would", "(IIIIII)I"⟩
def dkwX1_would_4 : List UInt8 := [181, 1, 3, 42, 180, 0, 16, 25, 7, 182, 1, 5, 172]
abbrev dktX1_would_4 : List UInt8 := dkwX1_would_4 ++ []
def dkwX1_would_3 : List UInt8 := [25, 7, 29, 181, 0, 251, 25, 7, 21, 4, 181, 0, 253, 25, 7, 21, 5, 181, 1, 0, 25, 7, 21, 6]
abbrev dktX1_would_3 : List UInt8 := dkwX1_would_3 ++ dktX1_would_4
def dkwX1_would_2 : List UInt8 := [182, 0, 125, 187, 0, 244, 89, 183, 0, 246, 58, 7, 25, 7, 27, 181, 0, 247, 25, 7, 28, 181, 0, 249]
abbrev dktX1_would_2 : List UInt8 := dkwX1_would_2 ++ dktX1_would_3
def dkwX1_would_1 : List UInt8 := [21, 4, 3, 4, 182, 0, 125, 42, 21, 5, 3, 17, 0, 240, 182, 0, 125, 42, 21, 6, 3, 4]
abbrev dktX1_would_1 : List UInt8 := dkwX1_would_1 ++ dktX1_would_2
def dkwX1_would_0 : List UInt8 := [42, 27, 4, 16, 30, 182, 0, 125, 42, 28, 4, 5, 182, 0, 125, 42, 29, 3, 16, 18, 182, 0, 125, 42]
abbrev dktX1_would_0 : List UInt8 := dkwX1_would_0 ++ dktX1_would_1
theorem dksX1_would_0 : cX1_would.data.toList.drop 0 = dktX1_would_0 := by decide +kernel
theorem dksX1_would_1 : cX1_would.data.toList.drop 24 = dktX1_would_1 := dk_seg dksX1_would_0 24 rfl rfl
theorem dksX1_would_2 : cX1_would.data.toList.drop 46 = dktX1_would_2 := dk_seg dksX1_would_1 22 rfl rfl
theorem dksX1_would_3 : cX1_would.data.toList.drop 70 = dktX1_would_3 := dk_seg dksX1_would_2 24 rfl rfl
theorem dksX1_would_4 : cX1_would.data.toList.drop 94 = dktX1_would_4 := dk_seg dksX1_would_3 24 rfl rfl
theorem dX1_would_0 : decode cX1_would 0 = .ok (.aload_n 0, 1) := dk_42 (dk_at dksX1_would_0 0 rfl rfl)
theorem dX1_would_1 : decode cX1_would 1 = .ok (.iload_n 1, 1) := dk_27 (dk_at dksX1_would_0 1 rfl rfl)
theorem dX1_would_2 : decode cX1_would 2 = .ok (.iconst 1, 1) := dk_4 (dk_at dksX1_would_0 2 rfl rfl)
theorem dX1_would_3 : decode cX1_would 3 = .ok (.bipush 30, 2) := dk_16 30 (dk_at dksX1_would_0 3 rfl rfl)
theorem dX1_would_5 : decode cX1_would 5 = .ok (.invokevirtual 125, 3) := dk_182 0 125 (dk_at dksX1_would_0 5 rfl rfl)
theorem dX1_would_8 : decode cX1_would 8 = .ok (.aload_n 0, 1) := dk_42 (dk_at dksX1_would_0 8 rfl rfl)
theorem dX1_would_9 : decode cX1_would 9 = .ok (.iload_n 2, 1) := dk_28 (dk_at dksX1_would_0 9 rfl rfl)
theorem dX1_would_10 : decode cX1_would 10 = .ok (.iconst 1, 1) := dk_4 (dk_at dksX1_would_0 10 rfl rfl)
theorem dX1_would_11 : decode cX1_would 11 = .ok (.iconst 2, 1) := dk_5 (dk_at dksX1_would_0 11 rfl rfl)
theorem dX1_would_12 : decode cX1_would 12 = .ok (.invokevirtual 125, 3) := dk_182 0 125 (dk_at dksX1_would_0 12 rfl rfl)
theorem dX1_would_15 : decode cX1_would 15 = .ok (.aload_n 0, 1) := dk_42 (dk_at dksX1_would_0 15 rfl rfl)
theorem dX1_would_16 : decode cX1_would 16 = .ok (.iload_n 3, 1) := dk_29 (dk_at dksX1_would_0 16 rfl rfl)
theorem dX1_would_17 : decode cX1_would 17 = .ok (.iconst 0, 1) := dk_3 (dk_at dksX1_would_0 17 rfl rfl)
theorem dX1_would_18 : decode cX1_would 18 = .ok (.bipush 18, 2) := dk_16 18 (dk_at dksX1_would_0 18 rfl rfl)
theorem dX1_would_20 : decode cX1_would 20 = .ok (.invokevirtual 125, 3) := dk_182 0 125 (dk_at dksX1_would_0 20 rfl rfl)
theorem dX1_would_23 : decode cX1_would 23 = .ok (.aload_n 0, 1) := dk_42 (dk_at dksX1_would_0 23 rfl rfl)
theorem dX1_would_24 : decode cX1_would 24 = .ok (.iload 4, 2) := dk_21 4 (dk_at dksX1_would_1 0 rfl rfl)
theorem dX1_would_26 : decode cX1_would 26 = .ok (.iconst 0, 1) := dk_3 (dk_at dksX1_would_1 2 rfl rfl)
theorem dX1_would_27 : decode cX1_would 27 = .ok (.iconst 1, 1) := dk_4 (dk_at dksX1_would_1 3 rfl rfl)
theorem dX1_would_28 : decode cX1_would 28 = .ok (.invokevirtual 125, 3) := dk_182 0 125 (dk_at dksX1_would_1 4 rfl rfl)
theorem dX1_would_31 : decode cX1_would 31 = .ok (.aload_n 0, 1) := dk_42 (dk_at dksX1_would_1 7 rfl rfl)
theorem dX1_would_32 : decode cX1_would 32 = .ok (.iload 5, 2) := dk_21 5 (dk_at dksX1_would_1 8 rfl rfl)
theorem dX1_would_34 : decode cX1_would 34 = .ok (.iconst 0, 1) := dk_3 (dk_at dksX1_would_1 10 rfl rfl)
theorem dX1_would_35 : decode cX1_would 35 = .ok (.sipush 240, 3) := dk_17 0 240 (dk_at dksX1_would_1 11 rfl rfl)
theorem dX1_would_38 : decode cX1_would 38 = .ok (.invokevirtual 125, 3) := dk_182 0 125 (dk_at dksX1_would_1 14 rfl rfl)
theorem dX1_would_41 : decode cX1_would 41 = .ok (.aload_n 0, 1) := dk_42 (dk_at dksX1_would_1 17 rfl rfl)
theorem dX1_would_42 : decode cX1_would 42 = .ok (.iload 6, 2) := dk_21 6 (dk_at dksX1_would_1 18 rfl rfl)
theorem dX1_would_44 : decode cX1_would 44 = .ok (.iconst 0, 1) := dk_3 (dk_at dksX1_would_1 20 rfl rfl)
theorem dX1_would_45 : decode cX1_would 45 = .ok (.iconst 1, 1) := dk_4 (dk_at dksX1_would_1 21 rfl rfl)
theorem dX1_would_46 : decode cX1_would 46 = .ok (.invokevirtual 125, 3) := dk_182 0 125 (dk_at dksX1_would_2 0 rfl rfl)
theorem dX1_would_49 : decode cX1_would 49 = .ok (.new 244, 3) := dk_187 0 244 (dk_at dksX1_would_2 3 rfl rfl)
theorem dX1_would_52 : decode cX1_would 52 = .ok (.dup, 1) := dk_89 (dk_at dksX1_would_2 6 rfl rfl)
theorem dX1_would_53 : decode cX1_would 53 = .ok (.invokespecial 246, 3) := dk_183 0 246 (dk_at dksX1_would_2 7 rfl rfl)
theorem dX1_would_56 : decode cX1_would 56 = .ok (.astore 7, 2) := dk_58 7 (dk_at dksX1_would_2 10 rfl rfl)
theorem dX1_would_58 : decode cX1_would 58 = .ok (.aload 7, 2) := dk_25 7 (dk_at dksX1_would_2 12 rfl rfl)
theorem dX1_would_60 : decode cX1_would 60 = .ok (.iload_n 1, 1) := dk_27 (dk_at dksX1_would_2 14 rfl rfl)
theorem dX1_would_61 : decode cX1_would 61 = .ok (.putfield 247, 3) := dk_181 0 247 (dk_at dksX1_would_2 15 rfl rfl)
theorem dX1_would_64 : decode cX1_would 64 = .ok (.aload 7, 2) := dk_25 7 (dk_at dksX1_would_2 18 rfl rfl)
theorem dX1_would_66 : decode cX1_would 66 = .ok (.iload_n 2, 1) := dk_28 (dk_at dksX1_would_2 20 rfl rfl)
theorem dX1_would_67 : decode cX1_would 67 = .ok (.putfield 249, 3) := dk_181 0 249 (dk_at dksX1_would_2 21 rfl rfl)
theorem dX1_would_70 : decode cX1_would 70 = .ok (.aload 7, 2) := dk_25 7 (dk_at dksX1_would_3 0 rfl rfl)
theorem dX1_would_72 : decode cX1_would 72 = .ok (.iload_n 3, 1) := dk_29 (dk_at dksX1_would_3 2 rfl rfl)
theorem dX1_would_73 : decode cX1_would 73 = .ok (.putfield 251, 3) := dk_181 0 251 (dk_at dksX1_would_3 3 rfl rfl)
theorem dX1_would_76 : decode cX1_would 76 = .ok (.aload 7, 2) := dk_25 7 (dk_at dksX1_would_3 6 rfl rfl)
theorem dX1_would_78 : decode cX1_would 78 = .ok (.iload 4, 2) := dk_21 4 (dk_at dksX1_would_3 8 rfl rfl)
theorem dX1_would_80 : decode cX1_would 80 = .ok (.putfield 253, 3) := dk_181 0 253 (dk_at dksX1_would_3 10 rfl rfl)
theorem dX1_would_83 : decode cX1_would 83 = .ok (.aload 7, 2) := dk_25 7 (dk_at dksX1_would_3 13 rfl rfl)
theorem dX1_would_85 : decode cX1_would 85 = .ok (.iload 5, 2) := dk_21 5 (dk_at dksX1_would_3 15 rfl rfl)
theorem dX1_would_87 : decode cX1_would 87 = .ok (.putfield 256, 3) := dk_181 1 0 (dk_at dksX1_would_3 17 rfl rfl)
theorem dX1_would_90 : decode cX1_would 90 = .ok (.aload 7, 2) := dk_25 7 (dk_at dksX1_would_3 20 rfl rfl)
theorem dX1_would_92 : decode cX1_would 92 = .ok (.iload 6, 2) := dk_21 6 (dk_at dksX1_would_3 22 rfl rfl)
theorem dX1_would_94 : decode cX1_would 94 = .ok (.putfield 259, 3) := dk_181 1 3 (dk_at dksX1_would_4 0 rfl rfl)
theorem dX1_would_97 : decode cX1_would 97 = .ok (.aload_n 0, 1) := dk_42 (dk_at dksX1_would_4 3 rfl rfl)
theorem dX1_would_98 : decode cX1_would 98 = .ok (.getfield 16, 3) := dk_180 0 16 (dk_at dksX1_would_4 4 rfl rfl)
theorem dX1_would_101 : decode cX1_would 101 = .ok (.aload 7, 2) := dk_25 7 (dk_at dksX1_would_4 7 rfl rfl)
theorem dX1_would_103 : decode cX1_would 103 = .ok (.invokevirtual 261, 3) := dk_182 1 5 (dk_at dksX1_would_4 9 rfl rfl)
theorem dX1_would_106 : decode cX1_would 106 = .ok (.ireturn, 1) := dk_172 (dk_at dksX1_would_4 12 rfl rfl)
abbrev cX1_line : ByteArray := prog_1_method_25_code
def yX1_line : MethodName := ⟨RX1, "line", "(II)I"⟩
def dkwX1_line_4 : List UInt8 := [172, 42, 180, 0, 51, 180, 1, 33, 27, 46, 172]
abbrev dktX1_line_4 : List UInt8 := dkwX1_line_4 ++ []
def dkwX1_line_3 : List UInt8 := [180, 1, 30, 27, 46, 2, 160, 0, 7, 4, 167, 0, 4, 3, 172, 42, 180, 0, 51, 180, 1, 30, 27, 46]
abbrev dktX1_line_3 : List UInt8 := dkwX1_line_3 ++ dktX1_line_4
def dkwX1_line_2 : List UInt8 := [42, 180, 0, 23, 180, 1, 24, 27, 46, 172, 42, 180, 0, 23, 180, 1, 27, 27, 46, 172, 42, 180, 0, 51]
abbrev dktX1_line_2 : List UInt8 := dkwX1_line_2 ++ dktX1_line_3
def dkwX1_line_1 : List UInt8 := [170, 0, 0, 0, 0, 79, 0, 0, 0, 0, 0, 0, 0, 3, 0, 0, 0, 30, 0, 0, 0, 40, 0, 0, 0, 50, 0, 0, 0, 69]
abbrev dktX1_line_1 : List UInt8 := dkwX1_line_1 ++ dktX1_line_2
def dkwX1_line_0 : List UInt8 := [42, 27, 182, 1, 17, 42, 28, 3, 7, 182, 0, 125, 42, 182, 1, 20, 87, 28]
abbrev dktX1_line_0 : List UInt8 := dkwX1_line_0 ++ dktX1_line_1
theorem dksX1_line_0 : cX1_line.data.toList.drop 0 = dktX1_line_0 := by decide +kernel
theorem dksX1_line_1 : cX1_line.data.toList.drop 18 = dktX1_line_1 := dk_seg dksX1_line_0 18 rfl rfl
theorem dksX1_line_2 : cX1_line.data.toList.drop 48 = dktX1_line_2 := dk_seg dksX1_line_1 30 rfl rfl
theorem dksX1_line_3 : cX1_line.data.toList.drop 72 = dktX1_line_3 := dk_seg dksX1_line_2 24 rfl rfl
theorem dksX1_line_4 : cX1_line.data.toList.drop 96 = dktX1_line_4 := dk_seg dksX1_line_3 24 rfl rfl
theorem dX1_line_0 : decode cX1_line 0 = .ok (.aload_n 0, 1) := dk_42 (dk_at dksX1_line_0 0 rfl rfl)
theorem dX1_line_1 : decode cX1_line 1 = .ok (.iload_n 1, 1) := dk_27 (dk_at dksX1_line_0 1 rfl rfl)
theorem dX1_line_2 : decode cX1_line 2 = .ok (.invokevirtual 273, 3) := dk_182 1 17 (dk_at dksX1_line_0 2 rfl rfl)
theorem dX1_line_5 : decode cX1_line 5 = .ok (.aload_n 0, 1) := dk_42 (dk_at dksX1_line_0 5 rfl rfl)
theorem dX1_line_6 : decode cX1_line 6 = .ok (.iload_n 2, 1) := dk_28 (dk_at dksX1_line_0 6 rfl rfl)
theorem dX1_line_7 : decode cX1_line 7 = .ok (.iconst 0, 1) := dk_3 (dk_at dksX1_line_0 7 rfl rfl)
theorem dX1_line_8 : decode cX1_line 8 = .ok (.iconst 4, 1) := dk_7 (dk_at dksX1_line_0 8 rfl rfl)
theorem dX1_line_9 : decode cX1_line 9 = .ok (.invokevirtual 125, 3) := dk_182 0 125 (dk_at dksX1_line_0 9 rfl rfl)
theorem dX1_line_12 : decode cX1_line 12 = .ok (.aload_n 0, 1) := dk_42 (dk_at dksX1_line_0 12 rfl rfl)
theorem dX1_line_13 : decode cX1_line 13 = .ok (.invokevirtual 276, 3) := dk_182 1 20 (dk_at dksX1_line_0 13 rfl rfl)
theorem dX1_line_16 : decode cX1_line 16 = .ok (.pop, 1) := dk_87 (dk_at dksX1_line_0 16 rfl rfl)
theorem dX1_line_17 : decode cX1_line 17 = .ok (.iload_n 2, 1) := dk_28 (dk_at dksX1_line_0 17 rfl rfl)
theorem dX1_line_18 : decode cX1_line 18 = .ok (.tableswitch 79 0 3 #[30, 40, 50, 69], 30) := by decide +kernel
theorem dX1_line_48 : decode cX1_line 48 = .ok (.aload_n 0, 1) := dk_42 (dk_at dksX1_line_2 0 rfl rfl)
theorem dX1_line_49 : decode cX1_line 49 = .ok (.getfield 23, 3) := dk_180 0 23 (dk_at dksX1_line_2 1 rfl rfl)
theorem dX1_line_52 : decode cX1_line 52 = .ok (.getfield 280, 3) := dk_180 1 24 (dk_at dksX1_line_2 4 rfl rfl)
theorem dX1_line_55 : decode cX1_line 55 = .ok (.iload_n 1, 1) := dk_27 (dk_at dksX1_line_2 7 rfl rfl)
theorem dX1_line_56 : decode cX1_line 56 = .ok (.iaload, 1) := dk_46 (dk_at dksX1_line_2 8 rfl rfl)
theorem dX1_line_57 : decode cX1_line 57 = .ok (.ireturn, 1) := dk_172 (dk_at dksX1_line_2 9 rfl rfl)
theorem dX1_line_58 : decode cX1_line 58 = .ok (.aload_n 0, 1) := dk_42 (dk_at dksX1_line_2 10 rfl rfl)
theorem dX1_line_59 : decode cX1_line 59 = .ok (.getfield 23, 3) := dk_180 0 23 (dk_at dksX1_line_2 11 rfl rfl)
theorem dX1_line_62 : decode cX1_line 62 = .ok (.getfield 283, 3) := dk_180 1 27 (dk_at dksX1_line_2 14 rfl rfl)
theorem dX1_line_65 : decode cX1_line 65 = .ok (.iload_n 1, 1) := dk_27 (dk_at dksX1_line_2 17 rfl rfl)
theorem dX1_line_66 : decode cX1_line 66 = .ok (.iaload, 1) := dk_46 (dk_at dksX1_line_2 18 rfl rfl)
theorem dX1_line_67 : decode cX1_line 67 = .ok (.ireturn, 1) := dk_172 (dk_at dksX1_line_2 19 rfl rfl)
theorem dX1_line_68 : decode cX1_line 68 = .ok (.aload_n 0, 1) := dk_42 (dk_at dksX1_line_2 20 rfl rfl)
theorem dX1_line_69 : decode cX1_line 69 = .ok (.getfield 51, 3) := dk_180 0 51 (dk_at dksX1_line_2 21 rfl rfl)
theorem dX1_line_72 : decode cX1_line 72 = .ok (.getfield 286, 3) := dk_180 1 30 (dk_at dksX1_line_3 0 rfl rfl)
theorem dX1_line_75 : decode cX1_line 75 = .ok (.iload_n 1, 1) := dk_27 (dk_at dksX1_line_3 3 rfl rfl)
theorem dX1_line_76 : decode cX1_line 76 = .ok (.iaload, 1) := dk_46 (dk_at dksX1_line_3 4 rfl rfl)
theorem dX1_line_77 : decode cX1_line 77 = .ok (.iconst (-1), 1) := dk_2 (dk_at dksX1_line_3 5 rfl rfl)
theorem dX1_line_78 : decode cX1_line 78 = .ok (.if_icmp .ne 7, 3) := dk_160 0 7 (dk_at dksX1_line_3 6 rfl rfl)
theorem dX1_line_81 : decode cX1_line 81 = .ok (.iconst 1, 1) := dk_4 (dk_at dksX1_line_3 9 rfl rfl)
theorem dX1_line_82 : decode cX1_line 82 = .ok (.goto 4, 3) := dk_167 0 4 (dk_at dksX1_line_3 10 rfl rfl)
theorem dX1_line_85 : decode cX1_line 85 = .ok (.iconst 0, 1) := dk_3 (dk_at dksX1_line_3 13 rfl rfl)
theorem dX1_line_86 : decode cX1_line 86 = .ok (.ireturn, 1) := dk_172 (dk_at dksX1_line_3 14 rfl rfl)
theorem dX1_line_87 : decode cX1_line 87 = .ok (.aload_n 0, 1) := dk_42 (dk_at dksX1_line_3 15 rfl rfl)
theorem dX1_line_88 : decode cX1_line 88 = .ok (.getfield 51, 3) := dk_180 0 51 (dk_at dksX1_line_3 16 rfl rfl)
theorem dX1_line_91 : decode cX1_line 91 = .ok (.getfield 286, 3) := dk_180 1 30 (dk_at dksX1_line_3 19 rfl rfl)
theorem dX1_line_94 : decode cX1_line 94 = .ok (.iload_n 1, 1) := dk_27 (dk_at dksX1_line_3 22 rfl rfl)
theorem dX1_line_95 : decode cX1_line 95 = .ok (.iaload, 1) := dk_46 (dk_at dksX1_line_3 23 rfl rfl)
theorem dX1_line_96 : decode cX1_line 96 = .ok (.ireturn, 1) := dk_172 (dk_at dksX1_line_4 0 rfl rfl)
theorem dX1_line_97 : decode cX1_line 97 = .ok (.aload_n 0, 1) := dk_42 (dk_at dksX1_line_4 1 rfl rfl)
theorem dX1_line_98 : decode cX1_line 98 = .ok (.getfield 51, 3) := dk_180 0 51 (dk_at dksX1_line_4 2 rfl rfl)
theorem dX1_line_101 : decode cX1_line 101 = .ok (.getfield 289, 3) := dk_180 1 33 (dk_at dksX1_line_4 5 rfl rfl)
theorem dX1_line_104 : decode cX1_line 104 = .ok (.iload_n 1, 1) := dk_27 (dk_at dksX1_line_4 8 rfl rfl)
theorem dX1_line_105 : decode cX1_line 105 = .ok (.iaload, 1) := dk_46 (dk_at dksX1_line_4 9 rfl rfl)
theorem dX1_line_106 : decode cX1_line 106 = .ok (.ireturn, 1) := dk_172 (dk_at dksX1_line_4 10 rfl rfl)
abbrev cX1_lineOf : ByteArray := prog_1_method_7_code
def yX1_lineOf : MethodName := ⟨RX1, "lineOf", "(I)V"⟩
def dkwX1_lineOf_0 : List UInt8 := [42, 27, 42, 180, 0, 23, 180, 0, 100, 182, 0, 93, 177]
abbrev dktX1_lineOf_0 : List UInt8 := dkwX1_lineOf_0 ++ []
theorem dksX1_lineOf_0 : cX1_lineOf.data.toList.drop 0 = dktX1_lineOf_0 := by decide +kernel
theorem dX1_lineOf_0 : decode cX1_lineOf 0 = .ok (.aload_n 0, 1) := dk_42 (dk_at dksX1_lineOf_0 0 rfl rfl)
theorem dX1_lineOf_1 : decode cX1_lineOf 1 = .ok (.iload_n 1, 1) := dk_27 (dk_at dksX1_lineOf_0 1 rfl rfl)
theorem dX1_lineOf_2 : decode cX1_lineOf 2 = .ok (.aload_n 0, 1) := dk_42 (dk_at dksX1_lineOf_0 2 rfl rfl)
theorem dX1_lineOf_3 : decode cX1_lineOf 3 = .ok (.getfield 23, 3) := dk_180 0 23 (dk_at dksX1_lineOf_0 3 rfl rfl)
theorem dX1_lineOf_6 : decode cX1_lineOf 6 = .ok (.getfield 100, 3) := dk_180 0 100 (dk_at dksX1_lineOf_0 6 rfl rfl)
theorem dX1_lineOf_9 : decode cX1_lineOf 9 = .ok (.invokevirtual 93, 3) := dk_182 0 93 (dk_at dksX1_lineOf_0 9 rfl rfl)
theorem dX1_lineOf_12 : decode cX1_lineOf 12 = .ok (.return_, 1) := dk_177 (dk_at dksX1_lineOf_0 12 rfl rfl)
abbrev cX1_wet : ByteArray := prog_1_method_27_code
def yX1_wet : MethodName := ⟨RX1, "wet", "(I)I"⟩
def dkwX1_wet_0 : List UInt8 := [42, 27, 182, 0, 231, 42, 182, 1, 20, 180, 1, 39, 27, 46, 172]
abbrev dktX1_wet_0 : List UInt8 := dkwX1_wet_0 ++ []
theorem dksX1_wet_0 : cX1_wet.data.toList.drop 0 = dktX1_wet_0 := by decide +kernel
theorem dX1_wet_0 : decode cX1_wet 0 = .ok (.aload_n 0, 1) := dk_42 (dk_at dksX1_wet_0 0 rfl rfl)
theorem dX1_wet_1 : decode cX1_wet 1 = .ok (.iload_n 1, 1) := dk_27 (dk_at dksX1_wet_0 1 rfl rfl)
theorem dX1_wet_2 : decode cX1_wet 2 = .ok (.invokevirtual 231, 3) := dk_182 0 231 (dk_at dksX1_wet_0 2 rfl rfl)
theorem dX1_wet_5 : decode cX1_wet 5 = .ok (.aload_n 0, 1) := dk_42 (dk_at dksX1_wet_0 5 rfl rfl)
theorem dX1_wet_6 : decode cX1_wet 6 = .ok (.invokevirtual 276, 3) := dk_182 1 20 (dk_at dksX1_wet_0 6 rfl rfl)
theorem dX1_wet_9 : decode cX1_wet 9 = .ok (.getfield 295, 3) := dk_180 1 39 (dk_at dksX1_wet_0 9 rfl rfl)
theorem dX1_wet_12 : decode cX1_wet 12 = .ok (.iload_n 1, 1) := dk_27 (dk_at dksX1_wet_0 12 rfl rfl)
theorem dX1_wet_13 : decode cX1_wet 13 = .ok (.iaload, 1) := dk_46 (dk_at dksX1_wet_0 13 rfl rfl)
theorem dX1_wet_14 : decode cX1_wet 14 = .ok (.ireturn, 1) := dk_172 (dk_at dksX1_wet_0 14 rfl rfl)
abbrev cX1_idle : ByteArray := prog_1_method_28_code
def yX1_idle : MethodName := ⟨RX1, "idle", "(I)I"⟩
def dkwX1_idle_0 : List UInt8 := [42, 27, 182, 0, 231, 42, 182, 1, 20, 180, 1, 36, 42, 180, 0, 51, 180, 1, 42, 27, 46, 100, 172]
abbrev dktX1_idle_0 : List UInt8 := dkwX1_idle_0 ++ []
theorem dksX1_idle_0 : cX1_idle.data.toList.drop 0 = dktX1_idle_0 := by decide +kernel
theorem dX1_idle_0 : decode cX1_idle 0 = .ok (.aload_n 0, 1) := dk_42 (dk_at dksX1_idle_0 0 rfl rfl)
theorem dX1_idle_1 : decode cX1_idle 1 = .ok (.iload_n 1, 1) := dk_27 (dk_at dksX1_idle_0 1 rfl rfl)
theorem dX1_idle_2 : decode cX1_idle 2 = .ok (.invokevirtual 231, 3) := dk_182 0 231 (dk_at dksX1_idle_0 2 rfl rfl)
theorem dX1_idle_5 : decode cX1_idle 5 = .ok (.aload_n 0, 1) := dk_42 (dk_at dksX1_idle_0 5 rfl rfl)
theorem dX1_idle_6 : decode cX1_idle 6 = .ok (.invokevirtual 276, 3) := dk_182 1 20 (dk_at dksX1_idle_0 6 rfl rfl)
theorem dX1_idle_9 : decode cX1_idle 9 = .ok (.getfield 292, 3) := dk_180 1 36 (dk_at dksX1_idle_0 9 rfl rfl)
theorem dX1_idle_12 : decode cX1_idle 12 = .ok (.aload_n 0, 1) := dk_42 (dk_at dksX1_idle_0 12 rfl rfl)
theorem dX1_idle_13 : decode cX1_idle 13 = .ok (.getfield 51, 3) := dk_180 0 51 (dk_at dksX1_idle_0 13 rfl rfl)
theorem dX1_idle_16 : decode cX1_idle 16 = .ok (.getfield 298, 3) := dk_180 1 42 (dk_at dksX1_idle_0 16 rfl rfl)
theorem dX1_idle_19 : decode cX1_idle 19 = .ok (.iload_n 1, 1) := dk_27 (dk_at dksX1_idle_0 19 rfl rfl)
theorem dX1_idle_20 : decode cX1_idle 20 = .ok (.iaload, 1) := dk_46 (dk_at dksX1_idle_0 20 rfl rfl)
theorem dX1_idle_21 : decode cX1_idle 21 = .ok (.isub, 1) := dk_100 (dk_at dksX1_idle_0 21 rfl rfl)
theorem dX1_idle_22 : decode cX1_idle 22 = .ok (.ireturn, 1) := dk_172 (dk_at dksX1_idle_0 22 rfl rfl)
abbrev cX1_slack : ByteArray := prog_1_method_31_code
def yX1_slack : MethodName := ⟨RX1, "slack", "(I)I"⟩
def dkwX1_slack_0 : List UInt8 := [42, 27, 182, 0, 212, 42, 27, 182, 1, 52, 172]
abbrev dktX1_slack_0 : List UInt8 := dkwX1_slack_0 ++ []
theorem dksX1_slack_0 : cX1_slack.data.toList.drop 0 = dktX1_slack_0 := by decide +kernel
theorem dX1_slack_0 : decode cX1_slack 0 = .ok (.aload_n 0, 1) := dk_42 (dk_at dksX1_slack_0 0 rfl rfl)
theorem dX1_slack_1 : decode cX1_slack 1 = .ok (.iload_n 1, 1) := dk_27 (dk_at dksX1_slack_0 1 rfl rfl)
theorem dX1_slack_2 : decode cX1_slack 2 = .ok (.invokevirtual 212, 3) := dk_182 0 212 (dk_at dksX1_slack_0 2 rfl rfl)
theorem dX1_slack_5 : decode cX1_slack 5 = .ok (.aload_n 0, 1) := dk_42 (dk_at dksX1_slack_0 5 rfl rfl)
theorem dX1_slack_6 : decode cX1_slack 6 = .ok (.iload_n 1, 1) := dk_27 (dk_at dksX1_slack_0 6 rfl rfl)
theorem dX1_slack_7 : decode cX1_slack 7 = .ok (.invokevirtual 308, 3) := dk_182 1 52 (dk_at dksX1_slack_0 7 rfl rfl)
theorem dX1_slack_10 : decode cX1_slack 10 = .ok (.ireturn, 1) := dk_172 (dk_at dksX1_slack_0 10 rfl rfl)
abbrev cX1_ahead : ByteArray := prog_1_method_33_code
def yX1_ahead : MethodName := ⟨RX1, "ahead", "(I)I"⟩
def dkwX1_ahead_0 : List UInt8 := [42, 27, 182, 0, 212, 42, 180, 0, 79, 27, 182, 1, 55, 172]
abbrev dktX1_ahead_0 : List UInt8 := dkwX1_ahead_0 ++ []
theorem dksX1_ahead_0 : cX1_ahead.data.toList.drop 0 = dktX1_ahead_0 := by decide +kernel
theorem dX1_ahead_0 : decode cX1_ahead 0 = .ok (.aload_n 0, 1) := dk_42 (dk_at dksX1_ahead_0 0 rfl rfl)
theorem dX1_ahead_1 : decode cX1_ahead 1 = .ok (.iload_n 1, 1) := dk_27 (dk_at dksX1_ahead_0 1 rfl rfl)
theorem dX1_ahead_2 : decode cX1_ahead 2 = .ok (.invokevirtual 212, 3) := dk_182 0 212 (dk_at dksX1_ahead_0 2 rfl rfl)
theorem dX1_ahead_5 : decode cX1_ahead 5 = .ok (.aload_n 0, 1) := dk_42 (dk_at dksX1_ahead_0 5 rfl rfl)
theorem dX1_ahead_6 : decode cX1_ahead 6 = .ok (.getfield 79, 3) := dk_180 0 79 (dk_at dksX1_ahead_0 6 rfl rfl)
theorem dX1_ahead_9 : decode cX1_ahead 9 = .ok (.iload_n 1, 1) := dk_27 (dk_at dksX1_ahead_0 9 rfl rfl)
theorem dX1_ahead_10 : decode cX1_ahead 10 = .ok (.invokevirtual 311, 3) := dk_182 1 55 (dk_at dksX1_ahead_0 10 rfl rfl)
theorem dX1_ahead_13 : decode cX1_ahead 13 = .ok (.ireturn, 1) := dk_172 (dk_at dksX1_ahead_0 13 rfl rfl)
abbrev cX1_chain : ByteArray := prog_1_method_34_code
def yX1_chain : MethodName := ⟨RX1, "chain", "(I)I"⟩
def dkwX1_chain_0 : List UInt8 := [42, 27, 182, 0, 212, 42, 180, 0, 79, 27, 182, 1, 58, 172]
abbrev dktX1_chain_0 : List UInt8 := dkwX1_chain_0 ++ []
theorem dksX1_chain_0 : cX1_chain.data.toList.drop 0 = dktX1_chain_0 := by decide +kernel
theorem dX1_chain_0 : decode cX1_chain 0 = .ok (.aload_n 0, 1) := dk_42 (dk_at dksX1_chain_0 0 rfl rfl)
theorem dX1_chain_1 : decode cX1_chain 1 = .ok (.iload_n 1, 1) := dk_27 (dk_at dksX1_chain_0 1 rfl rfl)
theorem dX1_chain_2 : decode cX1_chain 2 = .ok (.invokevirtual 212, 3) := dk_182 0 212 (dk_at dksX1_chain_0 2 rfl rfl)
theorem dX1_chain_5 : decode cX1_chain 5 = .ok (.aload_n 0, 1) := dk_42 (dk_at dksX1_chain_0 5 rfl rfl)
theorem dX1_chain_6 : decode cX1_chain 6 = .ok (.getfield 79, 3) := dk_180 0 79 (dk_at dksX1_chain_0 6 rfl rfl)
theorem dX1_chain_9 : decode cX1_chain 9 = .ok (.iload_n 1, 1) := dk_27 (dk_at dksX1_chain_0 9 rfl rfl)
theorem dX1_chain_10 : decode cX1_chain 10 = .ok (.invokevirtual 314, 3) := dk_182 1 58 (dk_at dksX1_chain_0 10 rfl rfl)
theorem dX1_chain_13 : decode cX1_chain 13 = .ok (.ireturn, 1) := dk_172 (dk_at dksX1_chain_0 13 rfl rfl)
abbrev cX1_soonest : ByteArray := prog_1_method_35_code
def yX1_soonest : MethodName := ⟨RX1, "soonest", "(I)I"⟩
def dkwX1_soonest_2 : List UInt8 := [42, 180, 0, 58, 180, 1, 69, 172]
abbrev dktX1_soonest_2 : List UInt8 := dkwX1_soonest_2 ++ []
def dkwX1_soonest_1 : List UInt8 := [153, 0, 14, 42, 180, 0, 58, 180, 1, 68, 2, 160, 0, 13, 42, 180, 0, 58, 180, 1, 68, 167, 0, 10]
abbrev dktX1_soonest_1 : List UInt8 := dkwX1_soonest_1 ++ dktX1_soonest_2
def dkwX1_soonest_0 : List UInt8 := [42, 27, 3, 4, 182, 0, 125, 42, 182, 1, 61, 42, 180, 0, 58, 42, 180, 0, 79, 182, 1, 64, 27]
abbrev dktX1_soonest_0 : List UInt8 := dkwX1_soonest_0 ++ dktX1_soonest_1
theorem dksX1_soonest_0 : cX1_soonest.data.toList.drop 0 = dktX1_soonest_0 := by decide +kernel
theorem dksX1_soonest_1 : cX1_soonest.data.toList.drop 23 = dktX1_soonest_1 := dk_seg dksX1_soonest_0 23 rfl rfl
theorem dksX1_soonest_2 : cX1_soonest.data.toList.drop 47 = dktX1_soonest_2 := dk_seg dksX1_soonest_1 24 rfl rfl
theorem dX1_soonest_0 : decode cX1_soonest 0 = .ok (.aload_n 0, 1) := dk_42 (dk_at dksX1_soonest_0 0 rfl rfl)
theorem dX1_soonest_1 : decode cX1_soonest 1 = .ok (.iload_n 1, 1) := dk_27 (dk_at dksX1_soonest_0 1 rfl rfl)
theorem dX1_soonest_2 : decode cX1_soonest 2 = .ok (.iconst 0, 1) := dk_3 (dk_at dksX1_soonest_0 2 rfl rfl)
theorem dX1_soonest_3 : decode cX1_soonest 3 = .ok (.iconst 1, 1) := dk_4 (dk_at dksX1_soonest_0 3 rfl rfl)
theorem dX1_soonest_4 : decode cX1_soonest 4 = .ok (.invokevirtual 125, 3) := dk_182 0 125 (dk_at dksX1_soonest_0 4 rfl rfl)
theorem dX1_soonest_7 : decode cX1_soonest 7 = .ok (.aload_n 0, 1) := dk_42 (dk_at dksX1_soonest_0 7 rfl rfl)
theorem dX1_soonest_8 : decode cX1_soonest 8 = .ok (.invokevirtual 317, 3) := dk_182 1 61 (dk_at dksX1_soonest_0 8 rfl rfl)
theorem dX1_soonest_11 : decode cX1_soonest 11 = .ok (.aload_n 0, 1) := dk_42 (dk_at dksX1_soonest_0 11 rfl rfl)
theorem dX1_soonest_12 : decode cX1_soonest 12 = .ok (.getfield 58, 3) := dk_180 0 58 (dk_at dksX1_soonest_0 12 rfl rfl)
theorem dX1_soonest_15 : decode cX1_soonest 15 = .ok (.aload_n 0, 1) := dk_42 (dk_at dksX1_soonest_0 15 rfl rfl)
theorem dX1_soonest_16 : decode cX1_soonest 16 = .ok (.getfield 79, 3) := dk_180 0 79 (dk_at dksX1_soonest_0 16 rfl rfl)
theorem dX1_soonest_19 : decode cX1_soonest 19 = .ok (.invokevirtual 320, 3) := dk_182 1 64 (dk_at dksX1_soonest_0 19 rfl rfl)
theorem dX1_soonest_22 : decode cX1_soonest 22 = .ok (.iload_n 1, 1) := dk_27 (dk_at dksX1_soonest_0 22 rfl rfl)
theorem dX1_soonest_23 : decode cX1_soonest 23 = .ok (.ifCond .eq 14, 3) := dk_153 0 14 (dk_at dksX1_soonest_1 0 rfl rfl)
theorem dX1_soonest_26 : decode cX1_soonest 26 = .ok (.aload_n 0, 1) := dk_42 (dk_at dksX1_soonest_1 3 rfl rfl)
theorem dX1_soonest_27 : decode cX1_soonest 27 = .ok (.getfield 58, 3) := dk_180 0 58 (dk_at dksX1_soonest_1 4 rfl rfl)
theorem dX1_soonest_30 : decode cX1_soonest 30 = .ok (.getfield 324, 3) := dk_180 1 68 (dk_at dksX1_soonest_1 7 rfl rfl)
theorem dX1_soonest_33 : decode cX1_soonest 33 = .ok (.iconst (-1), 1) := dk_2 (dk_at dksX1_soonest_1 10 rfl rfl)
theorem dX1_soonest_34 : decode cX1_soonest 34 = .ok (.if_icmp .ne 13, 3) := dk_160 0 13 (dk_at dksX1_soonest_1 11 rfl rfl)
theorem dX1_soonest_37 : decode cX1_soonest 37 = .ok (.aload_n 0, 1) := dk_42 (dk_at dksX1_soonest_1 14 rfl rfl)
theorem dX1_soonest_38 : decode cX1_soonest 38 = .ok (.getfield 58, 3) := dk_180 0 58 (dk_at dksX1_soonest_1 15 rfl rfl)
theorem dX1_soonest_41 : decode cX1_soonest 41 = .ok (.getfield 324, 3) := dk_180 1 68 (dk_at dksX1_soonest_1 18 rfl rfl)
theorem dX1_soonest_44 : decode cX1_soonest 44 = .ok (.goto 10, 3) := dk_167 0 10 (dk_at dksX1_soonest_1 21 rfl rfl)
theorem dX1_soonest_47 : decode cX1_soonest 47 = .ok (.aload_n 0, 1) := dk_42 (dk_at dksX1_soonest_2 0 rfl rfl)
theorem dX1_soonest_48 : decode cX1_soonest 48 = .ok (.getfield 58, 3) := dk_180 0 58 (dk_at dksX1_soonest_2 1 rfl rfl)
theorem dX1_soonest_51 : decode cX1_soonest 51 = .ok (.getfield 325, 3) := dk_180 1 69 (dk_at dksX1_soonest_2 4 rfl rfl)
theorem dX1_soonest_54 : decode cX1_soonest 54 = .ok (.ireturn, 1) := dk_172 (dk_at dksX1_soonest_2 7 rfl rfl)
abbrev cX1_few : ByteArray := prog_1_method_9_code
def yX1_few : MethodName := ⟨RX1, "few", "()V"⟩
def dkwX1_few_1 : List UInt8 := [187, 0, 106, 89, 183, 0, 108, 191]
abbrev dktX1_few_1 : List UInt8 := dkwX1_few_1 ++ []
def dkwX1_few_0 : List UInt8 := [42, 180, 0, 79, 180, 0, 90, 8, 163, 0, 4, 177, 42, 180, 0, 40, 5, 92, 46, 4, 96, 79]
abbrev dktX1_few_0 : List UInt8 := dkwX1_few_0 ++ dktX1_few_1
theorem dksX1_few_0 : cX1_few.data.toList.drop 0 = dktX1_few_0 := by decide +kernel
theorem dksX1_few_1 : cX1_few.data.toList.drop 22 = dktX1_few_1 := dk_seg dksX1_few_0 22 rfl rfl
theorem dX1_few_0 : decode cX1_few 0 = .ok (.aload_n 0, 1) := dk_42 (dk_at dksX1_few_0 0 rfl rfl)
theorem dX1_few_1 : decode cX1_few 1 = .ok (.getfield 79, 3) := dk_180 0 79 (dk_at dksX1_few_0 1 rfl rfl)
theorem dX1_few_4 : decode cX1_few 4 = .ok (.getfield 90, 3) := dk_180 0 90 (dk_at dksX1_few_0 4 rfl rfl)
theorem dX1_few_7 : decode cX1_few 7 = .ok (.iconst 5, 1) := dk_8 (dk_at dksX1_few_0 7 rfl rfl)
theorem dX1_few_8 : decode cX1_few 8 = .ok (.if_icmp .gt 4, 3) := dk_163 0 4 (dk_at dksX1_few_0 8 rfl rfl)
theorem dX1_few_11 : decode cX1_few 11 = .ok (.return_, 1) := dk_177 (dk_at dksX1_few_0 11 rfl rfl)
theorem dX1_few_12 : decode cX1_few 12 = .ok (.aload_n 0, 1) := dk_42 (dk_at dksX1_few_0 12 rfl rfl)
theorem dX1_few_13 : decode cX1_few 13 = .ok (.getfield 40, 3) := dk_180 0 40 (dk_at dksX1_few_0 13 rfl rfl)
theorem dX1_few_16 : decode cX1_few 16 = .ok (.iconst 2, 1) := dk_5 (dk_at dksX1_few_0 16 rfl rfl)
theorem dX1_few_17 : decode cX1_few 17 = .ok (.dup2, 1) := dk_92 (dk_at dksX1_few_0 17 rfl rfl)
theorem dX1_few_18 : decode cX1_few 18 = .ok (.iaload, 1) := dk_46 (dk_at dksX1_few_0 18 rfl rfl)
theorem dX1_few_19 : decode cX1_few 19 = .ok (.iconst 1, 1) := dk_4 (dk_at dksX1_few_0 19 rfl rfl)
theorem dX1_few_20 : decode cX1_few 20 = .ok (.iadd, 1) := dk_96 (dk_at dksX1_few_0 20 rfl rfl)
theorem dX1_few_21 : decode cX1_few 21 = .ok (.iastore, 1) := dk_79 (dk_at dksX1_few_0 21 rfl rfl)
theorem dX1_few_22 : decode cX1_few 22 = .ok (.new 106, 3) := dk_187 0 106 (dk_at dksX1_few_1 0 rfl rfl)
theorem dX1_few_25 : decode cX1_few 25 = .ok (.dup, 1) := dk_89 (dk_at dksX1_few_1 3 rfl rfl)
theorem dX1_few_26 : decode cX1_few 26 = .ok (.invokespecial 108, 3) := dk_183 0 108 (dk_at dksX1_few_1 4 rfl rfl)
theorem dX1_few_29 : decode cX1_few 29 = .ok (.athrow, 1) := dk_191 (dk_at dksX1_few_1 7 rfl rfl)
abbrev cX1_first : ByteArray := prog_1_method_36_code
def yX1_first : MethodName := ⟨RX1, "first", "(I)I"⟩
def dkwX1_first_2 : List UInt8 := [180, 0, 58, 180, 1, 71, 27, 46, 104, 42, 180, 0, 58, 180, 1, 74, 27, 46, 96, 172]
abbrev dktX1_first_2 : List UInt8 := dkwX1_first_2 ++ []
def dkwX1_first_1 : List UInt8 := [180, 0, 79, 182, 1, 64, 42, 180, 0, 58, 180, 1, 68, 2, 160, 0, 7, 2, 167, 0, 25, 16, 100, 42]
abbrev dktX1_first_1 : List UInt8 := dkwX1_first_1 ++ dktX1_first_2
def dkwX1_first_0 : List UInt8 := [42, 27, 3, 42, 180, 0, 79, 180, 0, 90, 4, 100, 182, 0, 125, 42, 182, 1, 61, 42, 180, 0, 58, 42]
abbrev dktX1_first_0 : List UInt8 := dkwX1_first_0 ++ dktX1_first_1
theorem dksX1_first_0 : cX1_first.data.toList.drop 0 = dktX1_first_0 := by decide +kernel
theorem dksX1_first_1 : cX1_first.data.toList.drop 24 = dktX1_first_1 := dk_seg dksX1_first_0 24 rfl rfl
theorem dksX1_first_2 : cX1_first.data.toList.drop 48 = dktX1_first_2 := dk_seg dksX1_first_1 24 rfl rfl
theorem dX1_first_0 : decode cX1_first 0 = .ok (.aload_n 0, 1) := dk_42 (dk_at dksX1_first_0 0 rfl rfl)
theorem dX1_first_1 : decode cX1_first 1 = .ok (.iload_n 1, 1) := dk_27 (dk_at dksX1_first_0 1 rfl rfl)
theorem dX1_first_2 : decode cX1_first 2 = .ok (.iconst 0, 1) := dk_3 (dk_at dksX1_first_0 2 rfl rfl)
theorem dX1_first_3 : decode cX1_first 3 = .ok (.aload_n 0, 1) := dk_42 (dk_at dksX1_first_0 3 rfl rfl)
theorem dX1_first_4 : decode cX1_first 4 = .ok (.getfield 79, 3) := dk_180 0 79 (dk_at dksX1_first_0 4 rfl rfl)
theorem dX1_first_7 : decode cX1_first 7 = .ok (.getfield 90, 3) := dk_180 0 90 (dk_at dksX1_first_0 7 rfl rfl)
theorem dX1_first_10 : decode cX1_first 10 = .ok (.iconst 1, 1) := dk_4 (dk_at dksX1_first_0 10 rfl rfl)
theorem dX1_first_11 : decode cX1_first 11 = .ok (.isub, 1) := dk_100 (dk_at dksX1_first_0 11 rfl rfl)
theorem dX1_first_12 : decode cX1_first 12 = .ok (.invokevirtual 125, 3) := dk_182 0 125 (dk_at dksX1_first_0 12 rfl rfl)
theorem dX1_first_15 : decode cX1_first 15 = .ok (.aload_n 0, 1) := dk_42 (dk_at dksX1_first_0 15 rfl rfl)
theorem dX1_first_16 : decode cX1_first 16 = .ok (.invokevirtual 317, 3) := dk_182 1 61 (dk_at dksX1_first_0 16 rfl rfl)
theorem dX1_first_19 : decode cX1_first 19 = .ok (.aload_n 0, 1) := dk_42 (dk_at dksX1_first_0 19 rfl rfl)
theorem dX1_first_20 : decode cX1_first 20 = .ok (.getfield 58, 3) := dk_180 0 58 (dk_at dksX1_first_0 20 rfl rfl)
theorem dX1_first_23 : decode cX1_first 23 = .ok (.aload_n 0, 1) := dk_42 (dk_at dksX1_first_0 23 rfl rfl)
theorem dX1_first_24 : decode cX1_first 24 = .ok (.getfield 79, 3) := dk_180 0 79 (dk_at dksX1_first_1 0 rfl rfl)
theorem dX1_first_27 : decode cX1_first 27 = .ok (.invokevirtual 320, 3) := dk_182 1 64 (dk_at dksX1_first_1 3 rfl rfl)
theorem dX1_first_30 : decode cX1_first 30 = .ok (.aload_n 0, 1) := dk_42 (dk_at dksX1_first_1 6 rfl rfl)
theorem dX1_first_31 : decode cX1_first 31 = .ok (.getfield 58, 3) := dk_180 0 58 (dk_at dksX1_first_1 7 rfl rfl)
theorem dX1_first_34 : decode cX1_first 34 = .ok (.getfield 324, 3) := dk_180 1 68 (dk_at dksX1_first_1 10 rfl rfl)
theorem dX1_first_37 : decode cX1_first 37 = .ok (.iconst (-1), 1) := dk_2 (dk_at dksX1_first_1 13 rfl rfl)
theorem dX1_first_38 : decode cX1_first 38 = .ok (.if_icmp .ne 7, 3) := dk_160 0 7 (dk_at dksX1_first_1 14 rfl rfl)
theorem dX1_first_41 : decode cX1_first 41 = .ok (.iconst (-1), 1) := dk_2 (dk_at dksX1_first_1 17 rfl rfl)
theorem dX1_first_42 : decode cX1_first 42 = .ok (.goto 25, 3) := dk_167 0 25 (dk_at dksX1_first_1 18 rfl rfl)
theorem dX1_first_45 : decode cX1_first 45 = .ok (.bipush 100, 2) := dk_16 100 (dk_at dksX1_first_1 21 rfl rfl)
theorem dX1_first_47 : decode cX1_first 47 = .ok (.aload_n 0, 1) := dk_42 (dk_at dksX1_first_1 23 rfl rfl)
theorem dX1_first_48 : decode cX1_first 48 = .ok (.getfield 58, 3) := dk_180 0 58 (dk_at dksX1_first_2 0 rfl rfl)
theorem dX1_first_51 : decode cX1_first 51 = .ok (.getfield 327, 3) := dk_180 1 71 (dk_at dksX1_first_2 3 rfl rfl)
theorem dX1_first_54 : decode cX1_first 54 = .ok (.iload_n 1, 1) := dk_27 (dk_at dksX1_first_2 6 rfl rfl)
theorem dX1_first_55 : decode cX1_first 55 = .ok (.iaload, 1) := dk_46 (dk_at dksX1_first_2 7 rfl rfl)
theorem dX1_first_56 : decode cX1_first 56 = .ok (.imul, 1) := dk_104 (dk_at dksX1_first_2 8 rfl rfl)
theorem dX1_first_57 : decode cX1_first 57 = .ok (.aload_n 0, 1) := dk_42 (dk_at dksX1_first_2 9 rfl rfl)
theorem dX1_first_58 : decode cX1_first 58 = .ok (.getfield 58, 3) := dk_180 0 58 (dk_at dksX1_first_2 10 rfl rfl)
theorem dX1_first_61 : decode cX1_first 61 = .ok (.getfield 330, 3) := dk_180 1 74 (dk_at dksX1_first_2 13 rfl rfl)
theorem dX1_first_64 : decode cX1_first 64 = .ok (.iload_n 1, 1) := dk_27 (dk_at dksX1_first_2 16 rfl rfl)
theorem dX1_first_65 : decode cX1_first 65 = .ok (.iaload, 1) := dk_46 (dk_at dksX1_first_2 17 rfl rfl)
theorem dX1_first_66 : decode cX1_first 66 = .ok (.iadd, 1) := dk_96 (dk_at dksX1_first_2 18 rfl rfl)
theorem dX1_first_67 : decode cX1_first 67 = .ok (.ireturn, 1) := dk_172 (dk_at dksX1_first_2 19 rfl rfl)
abbrev cX1_sinks : ByteArray := prog_1_method_38_code
def yX1_sinks : MethodName := ⟨RX1, "sinks", "(III)I"⟩
def dkwX1_sinks_1 : List UInt8 := [180, 0, 79, 27, 28, 29, 182, 1, 80, 172]
abbrev dktX1_sinks_1 : List UInt8 := dkwX1_sinks_1 ++ []
def dkwX1_sinks_0 : List UInt8 := [42, 27, 29, 182, 1, 77, 42, 28, 3, 4, 42, 180, 0, 79, 180, 0, 197, 120, 4, 100, 182, 0, 125, 42]
abbrev dktX1_sinks_0 : List UInt8 := dkwX1_sinks_0 ++ dktX1_sinks_1
theorem dksX1_sinks_0 : cX1_sinks.data.toList.drop 0 = dktX1_sinks_0 := by decide +kernel
theorem dksX1_sinks_1 : cX1_sinks.data.toList.drop 24 = dktX1_sinks_1 := dk_seg dksX1_sinks_0 24 rfl rfl
theorem dX1_sinks_0 : decode cX1_sinks 0 = .ok (.aload_n 0, 1) := dk_42 (dk_at dksX1_sinks_0 0 rfl rfl)
theorem dX1_sinks_1 : decode cX1_sinks 1 = .ok (.iload_n 1, 1) := dk_27 (dk_at dksX1_sinks_0 1 rfl rfl)
theorem dX1_sinks_2 : decode cX1_sinks 2 = .ok (.iload_n 3, 1) := dk_29 (dk_at dksX1_sinks_0 2 rfl rfl)
theorem dX1_sinks_3 : decode cX1_sinks 3 = .ok (.invokevirtual 333, 3) := dk_182 1 77 (dk_at dksX1_sinks_0 3 rfl rfl)
theorem dX1_sinks_6 : decode cX1_sinks 6 = .ok (.aload_n 0, 1) := dk_42 (dk_at dksX1_sinks_0 6 rfl rfl)
theorem dX1_sinks_7 : decode cX1_sinks 7 = .ok (.iload_n 2, 1) := dk_28 (dk_at dksX1_sinks_0 7 rfl rfl)
theorem dX1_sinks_8 : decode cX1_sinks 8 = .ok (.iconst 0, 1) := dk_3 (dk_at dksX1_sinks_0 8 rfl rfl)
theorem dX1_sinks_9 : decode cX1_sinks 9 = .ok (.iconst 1, 1) := dk_4 (dk_at dksX1_sinks_0 9 rfl rfl)
theorem dX1_sinks_10 : decode cX1_sinks 10 = .ok (.aload_n 0, 1) := dk_42 (dk_at dksX1_sinks_0 10 rfl rfl)
theorem dX1_sinks_11 : decode cX1_sinks 11 = .ok (.getfield 79, 3) := dk_180 0 79 (dk_at dksX1_sinks_0 11 rfl rfl)
theorem dX1_sinks_14 : decode cX1_sinks 14 = .ok (.getfield 197, 3) := dk_180 0 197 (dk_at dksX1_sinks_0 14 rfl rfl)
theorem dX1_sinks_17 : decode cX1_sinks 17 = .ok (.ishl, 1) := dk_120 (dk_at dksX1_sinks_0 17 rfl rfl)
theorem dX1_sinks_18 : decode cX1_sinks 18 = .ok (.iconst 1, 1) := dk_4 (dk_at dksX1_sinks_0 18 rfl rfl)
theorem dX1_sinks_19 : decode cX1_sinks 19 = .ok (.isub, 1) := dk_100 (dk_at dksX1_sinks_0 19 rfl rfl)
theorem dX1_sinks_20 : decode cX1_sinks 20 = .ok (.invokevirtual 125, 3) := dk_182 0 125 (dk_at dksX1_sinks_0 20 rfl rfl)
theorem dX1_sinks_23 : decode cX1_sinks 23 = .ok (.aload_n 0, 1) := dk_42 (dk_at dksX1_sinks_0 23 rfl rfl)
theorem dX1_sinks_24 : decode cX1_sinks 24 = .ok (.getfield 79, 3) := dk_180 0 79 (dk_at dksX1_sinks_1 0 rfl rfl)
theorem dX1_sinks_27 : decode cX1_sinks 27 = .ok (.iload_n 1, 1) := dk_27 (dk_at dksX1_sinks_1 3 rfl rfl)
theorem dX1_sinks_28 : decode cX1_sinks 28 = .ok (.iload_n 2, 1) := dk_28 (dk_at dksX1_sinks_1 4 rfl rfl)
theorem dX1_sinks_29 : decode cX1_sinks 29 = .ok (.iload_n 3, 1) := dk_29 (dk_at dksX1_sinks_1 5 rfl rfl)
theorem dX1_sinks_30 : decode cX1_sinks 30 = .ok (.invokevirtual 336, 3) := dk_182 1 80 (dk_at dksX1_sinks_1 6 rfl rfl)
theorem dX1_sinks_33 : decode cX1_sinks 33 = .ok (.ireturn, 1) := dk_172 (dk_at dksX1_sinks_1 9 rfl rfl)
abbrev cX1_jack : ByteArray := prog_1_method_37_code
def yX1_jack : MethodName := ⟨RX1, "jack", "(II)V"⟩
def dkwX1_jack_0 : List UInt8 := [42, 27, 3, 16, 59, 182, 0, 125, 42, 28, 3, 17, 0, 240, 182, 0, 125, 177]
abbrev dktX1_jack_0 : List UInt8 := dkwX1_jack_0 ++ []
theorem dksX1_jack_0 : cX1_jack.data.toList.drop 0 = dktX1_jack_0 := by decide +kernel
theorem dX1_jack_0 : decode cX1_jack 0 = .ok (.aload_n 0, 1) := dk_42 (dk_at dksX1_jack_0 0 rfl rfl)
theorem dX1_jack_1 : decode cX1_jack 1 = .ok (.iload_n 1, 1) := dk_27 (dk_at dksX1_jack_0 1 rfl rfl)
theorem dX1_jack_2 : decode cX1_jack 2 = .ok (.iconst 0, 1) := dk_3 (dk_at dksX1_jack_0 2 rfl rfl)
theorem dX1_jack_3 : decode cX1_jack 3 = .ok (.bipush 59, 2) := dk_16 59 (dk_at dksX1_jack_0 3 rfl rfl)
theorem dX1_jack_5 : decode cX1_jack 5 = .ok (.invokevirtual 125, 3) := dk_182 0 125 (dk_at dksX1_jack_0 5 rfl rfl)
theorem dX1_jack_8 : decode cX1_jack 8 = .ok (.aload_n 0, 1) := dk_42 (dk_at dksX1_jack_0 8 rfl rfl)
theorem dX1_jack_9 : decode cX1_jack 9 = .ok (.iload_n 2, 1) := dk_28 (dk_at dksX1_jack_0 9 rfl rfl)
theorem dX1_jack_10 : decode cX1_jack 10 = .ok (.iconst 0, 1) := dk_3 (dk_at dksX1_jack_0 10 rfl rfl)
theorem dX1_jack_11 : decode cX1_jack 11 = .ok (.sipush 240, 3) := dk_17 0 240 (dk_at dksX1_jack_0 11 rfl rfl)
theorem dX1_jack_14 : decode cX1_jack 14 = .ok (.invokevirtual 125, 3) := dk_182 0 125 (dk_at dksX1_jack_0 14 rfl rfl)
theorem dX1_jack_17 : decode cX1_jack 17 = .ok (.return_, 1) := dk_177 (dk_at dksX1_jack_0 17 rfl rfl)
abbrev cX1_under : ByteArray := prog_1_method_39_code
def yX1_under : MethodName := ⟨RX1, "under", "(III)I"⟩
def dkwX1_under_3 : List UInt8 := [162, 0, 7, 21, 5, 54, 4, 132, 5, 1, 167, 255, 198, 21, 4, 172]
abbrev dktX1_under_3 : List UInt8 := dkwX1_under_3 ++ []
def dkwX1_under_2 : List UInt8 := [164, 0, 6, 167, 0, 26, 21, 4, 2, 159, 0, 16, 21, 5, 184, 1, 84, 21, 4, 184, 1, 84]
abbrev dktX1_under_2 : List UInt8 := dkwX1_under_2 ++ dktX1_under_3
def dkwX1_under_1 : List UInt8 := [42, 180, 0, 79, 180, 0, 197, 120, 162, 0, 50, 42, 180, 0, 79, 27, 21, 5, 28, 182, 1, 80, 29]
abbrev dktX1_under_1 : List UInt8 := dkwX1_under_1 ++ dktX1_under_2
def dkwX1_under_0 : List UInt8 := [42, 27, 28, 182, 1, 77, 42, 29, 3, 17, 39, 15, 182, 0, 125, 2, 54, 4, 3, 54, 5, 21, 5, 4]
abbrev dktX1_under_0 : List UInt8 := dkwX1_under_0 ++ dktX1_under_1
theorem dksX1_under_0 : cX1_under.data.toList.drop 0 = dktX1_under_0 := by decide +kernel
theorem dksX1_under_1 : cX1_under.data.toList.drop 24 = dktX1_under_1 := dk_seg dksX1_under_0 24 rfl rfl
theorem dksX1_under_2 : cX1_under.data.toList.drop 47 = dktX1_under_2 := dk_seg dksX1_under_1 23 rfl rfl
theorem dksX1_under_3 : cX1_under.data.toList.drop 69 = dktX1_under_3 := dk_seg dksX1_under_2 22 rfl rfl
theorem dX1_under_0 : decode cX1_under 0 = .ok (.aload_n 0, 1) := dk_42 (dk_at dksX1_under_0 0 rfl rfl)
theorem dX1_under_1 : decode cX1_under 1 = .ok (.iload_n 1, 1) := dk_27 (dk_at dksX1_under_0 1 rfl rfl)
theorem dX1_under_2 : decode cX1_under 2 = .ok (.iload_n 2, 1) := dk_28 (dk_at dksX1_under_0 2 rfl rfl)
theorem dX1_under_3 : decode cX1_under 3 = .ok (.invokevirtual 333, 3) := dk_182 1 77 (dk_at dksX1_under_0 3 rfl rfl)
theorem dX1_under_6 : decode cX1_under 6 = .ok (.aload_n 0, 1) := dk_42 (dk_at dksX1_under_0 6 rfl rfl)
theorem dX1_under_7 : decode cX1_under 7 = .ok (.iload_n 3, 1) := dk_29 (dk_at dksX1_under_0 7 rfl rfl)
theorem dX1_under_8 : decode cX1_under 8 = .ok (.iconst 0, 1) := dk_3 (dk_at dksX1_under_0 8 rfl rfl)
theorem dX1_under_9 : decode cX1_under 9 = .ok (.sipush 9999, 3) := dk_17 39 15 (dk_at dksX1_under_0 9 rfl rfl)
theorem dX1_under_12 : decode cX1_under 12 = .ok (.invokevirtual 125, 3) := dk_182 0 125 (dk_at dksX1_under_0 12 rfl rfl)
theorem dX1_under_15 : decode cX1_under 15 = .ok (.iconst (-1), 1) := dk_2 (dk_at dksX1_under_0 15 rfl rfl)
theorem dX1_under_16 : decode cX1_under 16 = .ok (.istore 4, 2) := dk_54 4 (dk_at dksX1_under_0 16 rfl rfl)
theorem dX1_under_18 : decode cX1_under 18 = .ok (.iconst 0, 1) := dk_3 (dk_at dksX1_under_0 18 rfl rfl)
theorem dX1_under_19 : decode cX1_under 19 = .ok (.istore 5, 2) := dk_54 5 (dk_at dksX1_under_0 19 rfl rfl)
theorem dX1_under_21 : decode cX1_under 21 = .ok (.iload 5, 2) := dk_21 5 (dk_at dksX1_under_0 21 rfl rfl)
theorem dX1_under_23 : decode cX1_under 23 = .ok (.iconst 1, 1) := dk_4 (dk_at dksX1_under_0 23 rfl rfl)
theorem dX1_under_24 : decode cX1_under 24 = .ok (.aload_n 0, 1) := dk_42 (dk_at dksX1_under_1 0 rfl rfl)
theorem dX1_under_25 : decode cX1_under 25 = .ok (.getfield 79, 3) := dk_180 0 79 (dk_at dksX1_under_1 1 rfl rfl)
theorem dX1_under_28 : decode cX1_under 28 = .ok (.getfield 197, 3) := dk_180 0 197 (dk_at dksX1_under_1 4 rfl rfl)
theorem dX1_under_31 : decode cX1_under 31 = .ok (.ishl, 1) := dk_120 (dk_at dksX1_under_1 7 rfl rfl)
theorem dX1_under_32 : decode cX1_under 32 = .ok (.if_icmp .ge 50, 3) := dk_162 0 50 (dk_at dksX1_under_1 8 rfl rfl)
theorem dX1_under_35 : decode cX1_under 35 = .ok (.aload_n 0, 1) := dk_42 (dk_at dksX1_under_1 11 rfl rfl)
theorem dX1_under_36 : decode cX1_under 36 = .ok (.getfield 79, 3) := dk_180 0 79 (dk_at dksX1_under_1 12 rfl rfl)
theorem dX1_under_39 : decode cX1_under 39 = .ok (.iload_n 1, 1) := dk_27 (dk_at dksX1_under_1 15 rfl rfl)
theorem dX1_under_40 : decode cX1_under 40 = .ok (.iload 5, 2) := dk_21 5 (dk_at dksX1_under_1 16 rfl rfl)
theorem dX1_under_42 : decode cX1_under 42 = .ok (.iload_n 2, 1) := dk_28 (dk_at dksX1_under_1 18 rfl rfl)
theorem dX1_under_43 : decode cX1_under 43 = .ok (.invokevirtual 336, 3) := dk_182 1 80 (dk_at dksX1_under_1 19 rfl rfl)
theorem dX1_under_46 : decode cX1_under 46 = .ok (.iload_n 3, 1) := dk_29 (dk_at dksX1_under_1 22 rfl rfl)
theorem dX1_under_47 : decode cX1_under 47 = .ok (.if_icmp .le 6, 3) := dk_164 0 6 (dk_at dksX1_under_2 0 rfl rfl)
theorem dX1_under_50 : decode cX1_under 50 = .ok (.goto 26, 3) := dk_167 0 26 (dk_at dksX1_under_2 3 rfl rfl)
theorem dX1_under_53 : decode cX1_under 53 = .ok (.iload 4, 2) := dk_21 4 (dk_at dksX1_under_2 6 rfl rfl)
theorem dX1_under_55 : decode cX1_under 55 = .ok (.iconst (-1), 1) := dk_2 (dk_at dksX1_under_2 8 rfl rfl)
theorem dX1_under_56 : decode cX1_under 56 = .ok (.if_icmp .eq 16, 3) := dk_159 0 16 (dk_at dksX1_under_2 9 rfl rfl)
theorem dX1_under_59 : decode cX1_under 59 = .ok (.iload 5, 2) := dk_21 5 (dk_at dksX1_under_2 12 rfl rfl)
theorem dX1_under_61 : decode cX1_under 61 = .ok (.invokestatic 340, 3) := dk_184 1 84 (dk_at dksX1_under_2 14 rfl rfl)
theorem dX1_under_64 : decode cX1_under 64 = .ok (.iload 4, 2) := dk_21 4 (dk_at dksX1_under_2 17 rfl rfl)
theorem dX1_under_66 : decode cX1_under 66 = .ok (.invokestatic 340, 3) := dk_184 1 84 (dk_at dksX1_under_2 19 rfl rfl)
theorem dX1_under_69 : decode cX1_under 69 = .ok (.if_icmp .ge 7, 3) := dk_162 0 7 (dk_at dksX1_under_3 0 rfl rfl)
theorem dX1_under_72 : decode cX1_under 72 = .ok (.iload 5, 2) := dk_21 5 (dk_at dksX1_under_3 3 rfl rfl)
theorem dX1_under_74 : decode cX1_under 74 = .ok (.istore 4, 2) := dk_54 4 (dk_at dksX1_under_3 5 rfl rfl)
theorem dX1_under_76 : decode cX1_under 76 = .ok (.iinc 5 1, 3) := dk_132 5 1 (dk_at dksX1_under_3 7 rfl rfl)
theorem dX1_under_79 : decode cX1_under 79 = .ok (.goto (-58), 3) := dk_167 255 198 (dk_at dksX1_under_3 10 rfl rfl)
theorem dX1_under_82 : decode cX1_under 82 = .ok (.iload 4, 2) := dk_21 4 (dk_at dksX1_under_3 13 rfl rfl)
theorem dX1_under_84 : decode cX1_under 84 = .ok (.ireturn, 1) := dk_172 (dk_at dksX1_under_3 15 rfl rfl)
abbrev cX1_push : ByteArray := prog_1_method_40_code
def yX1_push : MethodName := ⟨RX1, "push", "(IIII)I"⟩
def dkwX1_push_4 : List UInt8 := [154, 0, 8, 21, 5, 167, 0, 5, 21, 6, 172]
abbrev dktX1_push_4 : List UInt8 := dkwX1_push_4 ++ []
def dkwX1_push_3 : List UInt8 := [161, 0, 6, 167, 0, 11, 21, 7, 54, 5, 21, 8, 54, 6, 132, 7, 1, 167, 255, 199, 21, 4]
abbrev dktX1_push_3 : List UInt8 := dkwX1_push_3 ++ dktX1_push_4
def dkwX1_push_2 : List UInt8 := [42, 180, 0, 79, 21, 7, 3, 29, 182, 1, 80, 96, 54, 8, 21, 6, 2, 159, 0, 13, 21, 8, 21, 6]
abbrev dktX1_push_2 : List UInt8 := dkwX1_push_2 ++ dktX1_push_3
def dkwX1_push_1 : List UInt8 := [54, 5, 2, 54, 6, 3, 54, 7, 21, 7, 16, 60, 162, 0, 56, 28, 21, 7, 27, 100, 184, 1, 89, 104]
abbrev dktX1_push_1 : List UInt8 := dkwX1_push_1 ++ dktX1_push_2
def dkwX1_push_0 : List UInt8 := [42, 27, 29, 182, 1, 77, 42, 28, 3, 16, 99, 182, 0, 125, 42, 21, 4, 3, 4, 182, 0, 125, 3]
abbrev dktX1_push_0 : List UInt8 := dkwX1_push_0 ++ dktX1_push_1
theorem dksX1_push_0 : cX1_push.data.toList.drop 0 = dktX1_push_0 := by decide +kernel
theorem dksX1_push_1 : cX1_push.data.toList.drop 23 = dktX1_push_1 := dk_seg dksX1_push_0 23 rfl rfl
theorem dksX1_push_2 : cX1_push.data.toList.drop 47 = dktX1_push_2 := dk_seg dksX1_push_1 24 rfl rfl
theorem dksX1_push_3 : cX1_push.data.toList.drop 71 = dktX1_push_3 := dk_seg dksX1_push_2 24 rfl rfl
theorem dksX1_push_4 : cX1_push.data.toList.drop 93 = dktX1_push_4 := dk_seg dksX1_push_3 22 rfl rfl
theorem dX1_push_0 : decode cX1_push 0 = .ok (.aload_n 0, 1) := dk_42 (dk_at dksX1_push_0 0 rfl rfl)
theorem dX1_push_1 : decode cX1_push 1 = .ok (.iload_n 1, 1) := dk_27 (dk_at dksX1_push_0 1 rfl rfl)
theorem dX1_push_2 : decode cX1_push 2 = .ok (.iload_n 3, 1) := dk_29 (dk_at dksX1_push_0 2 rfl rfl)
theorem dX1_push_3 : decode cX1_push 3 = .ok (.invokevirtual 333, 3) := dk_182 1 77 (dk_at dksX1_push_0 3 rfl rfl)
theorem dX1_push_6 : decode cX1_push 6 = .ok (.aload_n 0, 1) := dk_42 (dk_at dksX1_push_0 6 rfl rfl)
theorem dX1_push_7 : decode cX1_push 7 = .ok (.iload_n 2, 1) := dk_28 (dk_at dksX1_push_0 7 rfl rfl)
theorem dX1_push_8 : decode cX1_push 8 = .ok (.iconst 0, 1) := dk_3 (dk_at dksX1_push_0 8 rfl rfl)
theorem dX1_push_9 : decode cX1_push 9 = .ok (.bipush 99, 2) := dk_16 99 (dk_at dksX1_push_0 9 rfl rfl)
theorem dX1_push_11 : decode cX1_push 11 = .ok (.invokevirtual 125, 3) := dk_182 0 125 (dk_at dksX1_push_0 11 rfl rfl)
theorem dX1_push_14 : decode cX1_push 14 = .ok (.aload_n 0, 1) := dk_42 (dk_at dksX1_push_0 14 rfl rfl)
theorem dX1_push_15 : decode cX1_push 15 = .ok (.iload 4, 2) := dk_21 4 (dk_at dksX1_push_0 15 rfl rfl)
theorem dX1_push_17 : decode cX1_push 17 = .ok (.iconst 0, 1) := dk_3 (dk_at dksX1_push_0 17 rfl rfl)
theorem dX1_push_18 : decode cX1_push 18 = .ok (.iconst 1, 1) := dk_4 (dk_at dksX1_push_0 18 rfl rfl)
theorem dX1_push_19 : decode cX1_push 19 = .ok (.invokevirtual 125, 3) := dk_182 0 125 (dk_at dksX1_push_0 19 rfl rfl)
theorem dX1_push_22 : decode cX1_push 22 = .ok (.iconst 0, 1) := dk_3 (dk_at dksX1_push_0 22 rfl rfl)
theorem dX1_push_23 : decode cX1_push 23 = .ok (.istore 5, 2) := dk_54 5 (dk_at dksX1_push_1 0 rfl rfl)
theorem dX1_push_25 : decode cX1_push 25 = .ok (.iconst (-1), 1) := dk_2 (dk_at dksX1_push_1 2 rfl rfl)
theorem dX1_push_26 : decode cX1_push 26 = .ok (.istore 6, 2) := dk_54 6 (dk_at dksX1_push_1 3 rfl rfl)
theorem dX1_push_28 : decode cX1_push 28 = .ok (.iconst 0, 1) := dk_3 (dk_at dksX1_push_1 5 rfl rfl)
theorem dX1_push_29 : decode cX1_push 29 = .ok (.istore 7, 2) := dk_54 7 (dk_at dksX1_push_1 6 rfl rfl)
theorem dX1_push_31 : decode cX1_push 31 = .ok (.iload 7, 2) := dk_21 7 (dk_at dksX1_push_1 8 rfl rfl)
theorem dX1_push_33 : decode cX1_push 33 = .ok (.bipush 60, 2) := dk_16 60 (dk_at dksX1_push_1 10 rfl rfl)
theorem dX1_push_35 : decode cX1_push 35 = .ok (.if_icmp .ge 56, 3) := dk_162 0 56 (dk_at dksX1_push_1 12 rfl rfl)
theorem dX1_push_38 : decode cX1_push 38 = .ok (.iload_n 2, 1) := dk_28 (dk_at dksX1_push_1 15 rfl rfl)
theorem dX1_push_39 : decode cX1_push 39 = .ok (.iload 7, 2) := dk_21 7 (dk_at dksX1_push_1 16 rfl rfl)
theorem dX1_push_41 : decode cX1_push 41 = .ok (.iload_n 1, 1) := dk_27 (dk_at dksX1_push_1 18 rfl rfl)
theorem dX1_push_42 : decode cX1_push 42 = .ok (.isub, 1) := dk_100 (dk_at dksX1_push_1 19 rfl rfl)
theorem dX1_push_43 : decode cX1_push 43 = .ok (.invokestatic 345, 3) := dk_184 1 89 (dk_at dksX1_push_1 20 rfl rfl)
theorem dX1_push_46 : decode cX1_push 46 = .ok (.imul, 1) := dk_104 (dk_at dksX1_push_1 23 rfl rfl)
theorem dX1_push_47 : decode cX1_push 47 = .ok (.aload_n 0, 1) := dk_42 (dk_at dksX1_push_2 0 rfl rfl)
theorem dX1_push_48 : decode cX1_push 48 = .ok (.getfield 79, 3) := dk_180 0 79 (dk_at dksX1_push_2 1 rfl rfl)
theorem dX1_push_51 : decode cX1_push 51 = .ok (.iload 7, 2) := dk_21 7 (dk_at dksX1_push_2 4 rfl rfl)
theorem dX1_push_53 : decode cX1_push 53 = .ok (.iconst 0, 1) := dk_3 (dk_at dksX1_push_2 6 rfl rfl)
theorem dX1_push_54 : decode cX1_push 54 = .ok (.iload_n 3, 1) := dk_29 (dk_at dksX1_push_2 7 rfl rfl)
theorem dX1_push_55 : decode cX1_push 55 = .ok (.invokevirtual 336, 3) := dk_182 1 80 (dk_at dksX1_push_2 8 rfl rfl)
theorem dX1_push_58 : decode cX1_push 58 = .ok (.iadd, 1) := dk_96 (dk_at dksX1_push_2 11 rfl rfl)
theorem dX1_push_59 : decode cX1_push 59 = .ok (.istore 8, 2) := dk_54 8 (dk_at dksX1_push_2 12 rfl rfl)
theorem dX1_push_61 : decode cX1_push 61 = .ok (.iload 6, 2) := dk_21 6 (dk_at dksX1_push_2 14 rfl rfl)
theorem dX1_push_63 : decode cX1_push 63 = .ok (.iconst (-1), 1) := dk_2 (dk_at dksX1_push_2 16 rfl rfl)
theorem dX1_push_64 : decode cX1_push 64 = .ok (.if_icmp .eq 13, 3) := dk_159 0 13 (dk_at dksX1_push_2 17 rfl rfl)
theorem dX1_push_67 : decode cX1_push 67 = .ok (.iload 8, 2) := dk_21 8 (dk_at dksX1_push_2 20 rfl rfl)
theorem dX1_push_69 : decode cX1_push 69 = .ok (.iload 6, 2) := dk_21 6 (dk_at dksX1_push_2 22 rfl rfl)
theorem dX1_push_71 : decode cX1_push 71 = .ok (.if_icmp .lt 6, 3) := dk_161 0 6 (dk_at dksX1_push_3 0 rfl rfl)
theorem dX1_push_74 : decode cX1_push 74 = .ok (.goto 11, 3) := dk_167 0 11 (dk_at dksX1_push_3 3 rfl rfl)
theorem dX1_push_77 : decode cX1_push 77 = .ok (.iload 7, 2) := dk_21 7 (dk_at dksX1_push_3 6 rfl rfl)
theorem dX1_push_79 : decode cX1_push 79 = .ok (.istore 5, 2) := dk_54 5 (dk_at dksX1_push_3 8 rfl rfl)
theorem dX1_push_81 : decode cX1_push 81 = .ok (.iload 8, 2) := dk_21 8 (dk_at dksX1_push_3 10 rfl rfl)
theorem dX1_push_83 : decode cX1_push 83 = .ok (.istore 6, 2) := dk_54 6 (dk_at dksX1_push_3 12 rfl rfl)
theorem dX1_push_85 : decode cX1_push 85 = .ok (.iinc 7 1, 3) := dk_132 7 1 (dk_at dksX1_push_3 14 rfl rfl)
theorem dX1_push_88 : decode cX1_push 88 = .ok (.goto (-57), 3) := dk_167 255 199 (dk_at dksX1_push_3 17 rfl rfl)
theorem dX1_push_91 : decode cX1_push 91 = .ok (.iload 4, 2) := dk_21 4 (dk_at dksX1_push_3 20 rfl rfl)
theorem dX1_push_93 : decode cX1_push 93 = .ok (.ifCond .ne 8, 3) := dk_154 0 8 (dk_at dksX1_push_4 0 rfl rfl)
theorem dX1_push_96 : decode cX1_push 96 = .ok (.iload 5, 2) := dk_21 5 (dk_at dksX1_push_4 3 rfl rfl)
theorem dX1_push_98 : decode cX1_push 98 = .ok (.goto 5, 3) := dk_167 0 5 (dk_at dksX1_push_4 5 rfl rfl)
theorem dX1_push_101 : decode cX1_push 101 = .ok (.iload 6, 2) := dk_21 6 (dk_at dksX1_push_4 8 rfl rfl)
theorem dX1_push_103 : decode cX1_push 103 = .ok (.ireturn, 1) := dk_172 (dk_at dksX1_push_4 10 rfl rfl)
abbrev cX1_tries : ByteArray := prog_1_method_43_code
def yX1_tries : MethodName := ⟨RX1, "tries", "(IIII)J"⟩
def dkwX1_tries_2 : List UInt8 := [182, 1, 104, 100, 28, 184, 1, 100, 101, 16, 16, 28, 184, 1, 100, 21, 4, 184, 1, 107, 173]
abbrev dktX1_tries_2 : List UInt8 := dkwX1_tries_2 ++ []
def dkwX1_tries_1 : List UInt8 := [182, 1, 98, 42, 21, 4, 3, 4, 182, 0, 125, 16, 16, 28, 184, 1, 100, 16, 16, 42, 27, 29]
abbrev dktX1_tries_1 : List UInt8 := dkwX1_tries_1 ++ dktX1_tries_2
def dkwX1_tries_0 : List UInt8 := [42, 27, 42, 180, 0, 79, 180, 0, 200, 182, 0, 93, 42, 28, 3, 16, 7, 182, 0, 125, 42, 29]
abbrev dktX1_tries_0 : List UInt8 := dkwX1_tries_0 ++ dktX1_tries_1
theorem dksX1_tries_0 : cX1_tries.data.toList.drop 0 = dktX1_tries_0 := by decide +kernel
theorem dksX1_tries_1 : cX1_tries.data.toList.drop 22 = dktX1_tries_1 := dk_seg dksX1_tries_0 22 rfl rfl
theorem dksX1_tries_2 : cX1_tries.data.toList.drop 44 = dktX1_tries_2 := dk_seg dksX1_tries_1 22 rfl rfl
theorem dX1_tries_0 : decode cX1_tries 0 = .ok (.aload_n 0, 1) := dk_42 (dk_at dksX1_tries_0 0 rfl rfl)
theorem dX1_tries_1 : decode cX1_tries 1 = .ok (.iload_n 1, 1) := dk_27 (dk_at dksX1_tries_0 1 rfl rfl)
theorem dX1_tries_2 : decode cX1_tries 2 = .ok (.aload_n 0, 1) := dk_42 (dk_at dksX1_tries_0 2 rfl rfl)
theorem dX1_tries_3 : decode cX1_tries 3 = .ok (.getfield 79, 3) := dk_180 0 79 (dk_at dksX1_tries_0 3 rfl rfl)
theorem dX1_tries_6 : decode cX1_tries 6 = .ok (.getfield 200, 3) := dk_180 0 200 (dk_at dksX1_tries_0 6 rfl rfl)
theorem dX1_tries_9 : decode cX1_tries 9 = .ok (.invokevirtual 93, 3) := dk_182 0 93 (dk_at dksX1_tries_0 9 rfl rfl)
theorem dX1_tries_12 : decode cX1_tries 12 = .ok (.aload_n 0, 1) := dk_42 (dk_at dksX1_tries_0 12 rfl rfl)
theorem dX1_tries_13 : decode cX1_tries 13 = .ok (.iload_n 2, 1) := dk_28 (dk_at dksX1_tries_0 13 rfl rfl)
theorem dX1_tries_14 : decode cX1_tries 14 = .ok (.iconst 0, 1) := dk_3 (dk_at dksX1_tries_0 14 rfl rfl)
theorem dX1_tries_15 : decode cX1_tries 15 = .ok (.bipush 7, 2) := dk_16 7 (dk_at dksX1_tries_0 15 rfl rfl)
theorem dX1_tries_17 : decode cX1_tries 17 = .ok (.invokevirtual 125, 3) := dk_182 0 125 (dk_at dksX1_tries_0 17 rfl rfl)
theorem dX1_tries_20 : decode cX1_tries 20 = .ok (.aload_n 0, 1) := dk_42 (dk_at dksX1_tries_0 20 rfl rfl)
theorem dX1_tries_21 : decode cX1_tries 21 = .ok (.iload_n 3, 1) := dk_29 (dk_at dksX1_tries_0 21 rfl rfl)
theorem dX1_tries_22 : decode cX1_tries 22 = .ok (.invokevirtual 354, 3) := dk_182 1 98 (dk_at dksX1_tries_1 0 rfl rfl)
theorem dX1_tries_25 : decode cX1_tries 25 = .ok (.aload_n 0, 1) := dk_42 (dk_at dksX1_tries_1 3 rfl rfl)
theorem dX1_tries_26 : decode cX1_tries 26 = .ok (.iload 4, 2) := dk_21 4 (dk_at dksX1_tries_1 4 rfl rfl)
theorem dX1_tries_28 : decode cX1_tries 28 = .ok (.iconst 0, 1) := dk_3 (dk_at dksX1_tries_1 6 rfl rfl)
theorem dX1_tries_29 : decode cX1_tries 29 = .ok (.iconst 1, 1) := dk_4 (dk_at dksX1_tries_1 7 rfl rfl)
theorem dX1_tries_30 : decode cX1_tries 30 = .ok (.invokevirtual 125, 3) := dk_182 0 125 (dk_at dksX1_tries_1 8 rfl rfl)
theorem dX1_tries_33 : decode cX1_tries 33 = .ok (.bipush 16, 2) := dk_16 16 (dk_at dksX1_tries_1 11 rfl rfl)
theorem dX1_tries_35 : decode cX1_tries 35 = .ok (.iload_n 2, 1) := dk_28 (dk_at dksX1_tries_1 13 rfl rfl)
theorem dX1_tries_36 : decode cX1_tries 36 = .ok (.invokestatic 356, 3) := dk_184 1 100 (dk_at dksX1_tries_1 14 rfl rfl)
theorem dX1_tries_39 : decode cX1_tries 39 = .ok (.bipush 16, 2) := dk_16 16 (dk_at dksX1_tries_1 17 rfl rfl)
theorem dX1_tries_41 : decode cX1_tries 41 = .ok (.aload_n 0, 1) := dk_42 (dk_at dksX1_tries_1 19 rfl rfl)
theorem dX1_tries_42 : decode cX1_tries 42 = .ok (.iload_n 1, 1) := dk_27 (dk_at dksX1_tries_1 20 rfl rfl)
theorem dX1_tries_43 : decode cX1_tries 43 = .ok (.iload_n 3, 1) := dk_29 (dk_at dksX1_tries_1 21 rfl rfl)
theorem dX1_tries_44 : decode cX1_tries 44 = .ok (.invokevirtual 360, 3) := dk_182 1 104 (dk_at dksX1_tries_2 0 rfl rfl)
theorem dX1_tries_47 : decode cX1_tries 47 = .ok (.isub, 1) := dk_100 (dk_at dksX1_tries_2 3 rfl rfl)
theorem dX1_tries_48 : decode cX1_tries 48 = .ok (.iload_n 2, 1) := dk_28 (dk_at dksX1_tries_2 4 rfl rfl)
theorem dX1_tries_49 : decode cX1_tries 49 = .ok (.invokestatic 356, 3) := dk_184 1 100 (dk_at dksX1_tries_2 5 rfl rfl)
theorem dX1_tries_52 : decode cX1_tries 52 = .ok (.lsub, 1) := dk_101 (dk_at dksX1_tries_2 8 rfl rfl)
theorem dX1_tries_53 : decode cX1_tries 53 = .ok (.bipush 16, 2) := dk_16 16 (dk_at dksX1_tries_2 9 rfl rfl)
theorem dX1_tries_55 : decode cX1_tries 55 = .ok (.iload_n 2, 1) := dk_28 (dk_at dksX1_tries_2 11 rfl rfl)
theorem dX1_tries_56 : decode cX1_tries 56 = .ok (.invokestatic 356, 3) := dk_184 1 100 (dk_at dksX1_tries_2 12 rfl rfl)
theorem dX1_tries_59 : decode cX1_tries 59 = .ok (.iload 4, 2) := dk_21 4 (dk_at dksX1_tries_2 15 rfl rfl)
theorem dX1_tries_61 : decode cX1_tries 61 = .ok (.invokestatic 363, 3) := dk_184 1 107 (dk_at dksX1_tries_2 17 rfl rfl)
theorem dX1_tries_64 : decode cX1_tries 64 = .ok (.lreturn, 1) := dk_173 (dk_at dksX1_tries_2 20 rfl rfl)
abbrev cX1_strength : ByteArray := prog_1_method_42_code
def yX1_strength : MethodName := ⟨RX1, "strength", "(I)V"⟩
def dkwX1_strength_0 : List UInt8 := [42, 27, 3, 16, 18, 182, 0, 125, 177]
abbrev dktX1_strength_0 : List UInt8 := dkwX1_strength_0 ++ []
theorem dksX1_strength_0 : cX1_strength.data.toList.drop 0 = dktX1_strength_0 := by decide +kernel
theorem dX1_strength_0 : decode cX1_strength 0 = .ok (.aload_n 0, 1) := dk_42 (dk_at dksX1_strength_0 0 rfl rfl)
theorem dX1_strength_1 : decode cX1_strength 1 = .ok (.iload_n 1, 1) := dk_27 (dk_at dksX1_strength_0 1 rfl rfl)
theorem dX1_strength_2 : decode cX1_strength 2 = .ok (.iconst 0, 1) := dk_3 (dk_at dksX1_strength_0 2 rfl rfl)
theorem dX1_strength_3 : decode cX1_strength 3 = .ok (.bipush 18, 2) := dk_16 18 (dk_at dksX1_strength_0 3 rfl rfl)
theorem dX1_strength_5 : decode cX1_strength 5 = .ok (.invokevirtual 125, 3) := dk_182 0 125 (dk_at dksX1_strength_0 5 rfl rfl)
theorem dX1_strength_8 : decode cX1_strength 8 = .ok (.return_, 1) := dk_177 (dk_at dksX1_strength_0 8 rfl rfl)
abbrev cX1_power : ByteArray := prog_1_method_2_code
def yX1_power : MethodName := ⟨RX1, "power", "(II)J"⟩
def dkwX1_power_0 : List UInt8 := [10, 65, 3, 54, 4, 21, 4, 27, 162, 0, 14, 32, 26, 133, 105, 65, 132, 4, 1, 167, 255, 242, 32, 173]
abbrev dktX1_power_0 : List UInt8 := dkwX1_power_0 ++ []
theorem dksX1_power_0 : cX1_power.data.toList.drop 0 = dktX1_power_0 := by decide +kernel
theorem dX1_power_0 : decode cX1_power 0 = .ok (.lconst 1, 1) := dk_10 (dk_at dksX1_power_0 0 rfl rfl)
theorem dX1_power_1 : decode cX1_power 1 = .ok (.lstore_n 2, 1) := dk_65 (dk_at dksX1_power_0 1 rfl rfl)
theorem dX1_power_2 : decode cX1_power 2 = .ok (.iconst 0, 1) := dk_3 (dk_at dksX1_power_0 2 rfl rfl)
theorem dX1_power_3 : decode cX1_power 3 = .ok (.istore 4, 2) := dk_54 4 (dk_at dksX1_power_0 3 rfl rfl)
theorem dX1_power_5 : decode cX1_power 5 = .ok (.iload 4, 2) := dk_21 4 (dk_at dksX1_power_0 5 rfl rfl)
theorem dX1_power_7 : decode cX1_power 7 = .ok (.iload_n 1, 1) := dk_27 (dk_at dksX1_power_0 7 rfl rfl)
theorem dX1_power_8 : decode cX1_power 8 = .ok (.if_icmp .ge 14, 3) := dk_162 0 14 (dk_at dksX1_power_0 8 rfl rfl)
theorem dX1_power_11 : decode cX1_power 11 = .ok (.lload_n 2, 1) := dk_32 (dk_at dksX1_power_0 11 rfl rfl)
theorem dX1_power_12 : decode cX1_power 12 = .ok (.iload_n 0, 1) := dk_26 (dk_at dksX1_power_0 12 rfl rfl)
theorem dX1_power_13 : decode cX1_power 13 = .ok (.i2l, 1) := dk_133 (dk_at dksX1_power_0 13 rfl rfl)
theorem dX1_power_14 : decode cX1_power 14 = .ok (.lmul, 1) := dk_105 (dk_at dksX1_power_0 14 rfl rfl)
theorem dX1_power_15 : decode cX1_power 15 = .ok (.lstore_n 2, 1) := dk_65 (dk_at dksX1_power_0 15 rfl rfl)
theorem dX1_power_16 : decode cX1_power 16 = .ok (.iinc 4 1, 3) := dk_132 4 1 (dk_at dksX1_power_0 16 rfl rfl)
theorem dX1_power_19 : decode cX1_power 19 = .ok (.goto (-14), 3) := dk_167 255 242 (dk_at dksX1_power_0 19 rfl rfl)
theorem dX1_power_22 : decode cX1_power 22 = .ok (.lload_n 2, 1) := dk_32 (dk_at dksX1_power_0 22 rfl rfl)
theorem dX1_power_23 : decode cX1_power 23 = .ok (.lreturn, 1) := dk_173 (dk_at dksX1_power_0 23 rfl rfl)
abbrev cX1_loosens : ByteArray := prog_1_method_41_code
def yX1_loosens : MethodName := ⟨RX1, "loosens", "(II)I"⟩
def dkwX1_loosens_0 : List UInt8 := [3, 16, 16, 5, 28, 104, 42, 180, 0, 79, 180, 1, 92, 27, 46, 100, 184, 0, 157, 184, 1, 95, 172]
abbrev dktX1_loosens_0 : List UInt8 := dkwX1_loosens_0 ++ []
theorem dksX1_loosens_0 : cX1_loosens.data.toList.drop 0 = dktX1_loosens_0 := by decide +kernel
theorem dX1_loosens_0 : decode cX1_loosens 0 = .ok (.iconst 0, 1) := dk_3 (dk_at dksX1_loosens_0 0 rfl rfl)
theorem dX1_loosens_1 : decode cX1_loosens 1 = .ok (.bipush 16, 2) := dk_16 16 (dk_at dksX1_loosens_0 1 rfl rfl)
theorem dX1_loosens_3 : decode cX1_loosens 3 = .ok (.iconst 2, 1) := dk_5 (dk_at dksX1_loosens_0 3 rfl rfl)
theorem dX1_loosens_4 : decode cX1_loosens 4 = .ok (.iload_n 2, 1) := dk_28 (dk_at dksX1_loosens_0 4 rfl rfl)
theorem dX1_loosens_5 : decode cX1_loosens 5 = .ok (.imul, 1) := dk_104 (dk_at dksX1_loosens_0 5 rfl rfl)
theorem dX1_loosens_6 : decode cX1_loosens 6 = .ok (.aload_n 0, 1) := dk_42 (dk_at dksX1_loosens_0 6 rfl rfl)
theorem dX1_loosens_7 : decode cX1_loosens 7 = .ok (.getfield 79, 3) := dk_180 0 79 (dk_at dksX1_loosens_0 7 rfl rfl)
theorem dX1_loosens_10 : decode cX1_loosens 10 = .ok (.getfield 348, 3) := dk_180 1 92 (dk_at dksX1_loosens_0 10 rfl rfl)
theorem dX1_loosens_13 : decode cX1_loosens 13 = .ok (.iload_n 1, 1) := dk_27 (dk_at dksX1_loosens_0 13 rfl rfl)
theorem dX1_loosens_14 : decode cX1_loosens 14 = .ok (.iaload, 1) := dk_46 (dk_at dksX1_loosens_0 14 rfl rfl)
theorem dX1_loosens_15 : decode cX1_loosens 15 = .ok (.isub, 1) := dk_100 (dk_at dksX1_loosens_0 15 rfl rfl)
theorem dX1_loosens_16 : decode cX1_loosens 16 = .ok (.invokestatic 157, 3) := dk_184 0 157 (dk_at dksX1_loosens_0 16 rfl rfl)
theorem dX1_loosens_19 : decode cX1_loosens 19 = .ok (.invokestatic 351, 3) := dk_184 1 95 (dk_at dksX1_loosens_0 19 rfl rfl)
theorem dX1_loosens_22 : decode cX1_loosens 22 = .ok (.ireturn, 1) := dk_172 (dk_at dksX1_loosens_0 22 rfl rfl)
abbrev cX1_part : ByteArray := prog_1_method_1_code
def yX1_part : MethodName := ⟨RX1, "part", "(JJI)J"⟩
def dkwX1_part_1 : List UInt8 := [22, 9, 55, 7, 167, 255, 234, 21, 4, 154, 0, 10, 30, 22, 5, 109, 167, 0, 7, 32, 22, 5, 109, 173]
abbrev dktX1_part_1 : List UInt8 := dkwX1_part_1 ++ []
def dkwX1_part_0 : List UInt8 := [32, 55, 5, 30, 55, 7, 22, 7, 9, 148, 153, 0, 21, 22, 5, 22, 7, 113, 55, 9, 22, 7, 55, 5]
abbrev dktX1_part_0 : List UInt8 := dkwX1_part_0 ++ dktX1_part_1
theorem dksX1_part_0 : cX1_part.data.toList.drop 0 = dktX1_part_0 := by decide +kernel
theorem dksX1_part_1 : cX1_part.data.toList.drop 24 = dktX1_part_1 := dk_seg dksX1_part_0 24 rfl rfl
theorem dX1_part_0 : decode cX1_part 0 = .ok (.lload_n 2, 1) := dk_32 (dk_at dksX1_part_0 0 rfl rfl)
theorem dX1_part_1 : decode cX1_part 1 = .ok (.lstore 5, 2) := dk_55 5 (dk_at dksX1_part_0 1 rfl rfl)
theorem dX1_part_3 : decode cX1_part 3 = .ok (.lload_n 0, 1) := dk_30 (dk_at dksX1_part_0 3 rfl rfl)
theorem dX1_part_4 : decode cX1_part 4 = .ok (.lstore 7, 2) := dk_55 7 (dk_at dksX1_part_0 4 rfl rfl)
theorem dX1_part_6 : decode cX1_part 6 = .ok (.lload 7, 2) := dk_22 7 (dk_at dksX1_part_0 6 rfl rfl)
theorem dX1_part_8 : decode cX1_part 8 = .ok (.lconst 0, 1) := dk_9 (dk_at dksX1_part_0 8 rfl rfl)
theorem dX1_part_9 : decode cX1_part 9 = .ok (.lcmp, 1) := dk_148 (dk_at dksX1_part_0 9 rfl rfl)
theorem dX1_part_10 : decode cX1_part 10 = .ok (.ifCond .eq 21, 3) := dk_153 0 21 (dk_at dksX1_part_0 10 rfl rfl)
theorem dX1_part_13 : decode cX1_part 13 = .ok (.lload 5, 2) := dk_22 5 (dk_at dksX1_part_0 13 rfl rfl)
theorem dX1_part_15 : decode cX1_part 15 = .ok (.lload 7, 2) := dk_22 7 (dk_at dksX1_part_0 15 rfl rfl)
theorem dX1_part_17 : decode cX1_part 17 = .ok (.lrem, 1) := dk_113 (dk_at dksX1_part_0 17 rfl rfl)
theorem dX1_part_18 : decode cX1_part 18 = .ok (.lstore 9, 2) := dk_55 9 (dk_at dksX1_part_0 18 rfl rfl)
theorem dX1_part_20 : decode cX1_part 20 = .ok (.lload 7, 2) := dk_22 7 (dk_at dksX1_part_0 20 rfl rfl)
theorem dX1_part_22 : decode cX1_part 22 = .ok (.lstore 5, 2) := dk_55 5 (dk_at dksX1_part_0 22 rfl rfl)
theorem dX1_part_24 : decode cX1_part 24 = .ok (.lload 9, 2) := dk_22 9 (dk_at dksX1_part_1 0 rfl rfl)
theorem dX1_part_26 : decode cX1_part 26 = .ok (.lstore 7, 2) := dk_55 7 (dk_at dksX1_part_1 2 rfl rfl)
theorem dX1_part_28 : decode cX1_part 28 = .ok (.goto (-22), 3) := dk_167 255 234 (dk_at dksX1_part_1 4 rfl rfl)
theorem dX1_part_31 : decode cX1_part 31 = .ok (.iload 4, 2) := dk_21 4 (dk_at dksX1_part_1 7 rfl rfl)
theorem dX1_part_33 : decode cX1_part 33 = .ok (.ifCond .ne 10, 3) := dk_154 0 10 (dk_at dksX1_part_1 9 rfl rfl)
theorem dX1_part_36 : decode cX1_part 36 = .ok (.lload_n 0, 1) := dk_30 (dk_at dksX1_part_1 12 rfl rfl)
theorem dX1_part_37 : decode cX1_part 37 = .ok (.lload 5, 2) := dk_22 5 (dk_at dksX1_part_1 13 rfl rfl)
theorem dX1_part_39 : decode cX1_part 39 = .ok (.ldiv, 1) := dk_109 (dk_at dksX1_part_1 15 rfl rfl)
theorem dX1_part_40 : decode cX1_part 40 = .ok (.goto 7, 3) := dk_167 0 7 (dk_at dksX1_part_1 16 rfl rfl)
theorem dX1_part_43 : decode cX1_part 43 = .ok (.lload_n 2, 1) := dk_32 (dk_at dksX1_part_1 19 rfl rfl)
theorem dX1_part_44 : decode cX1_part 44 = .ok (.lload 5, 2) := dk_22 5 (dk_at dksX1_part_1 20 rfl rfl)
theorem dX1_part_46 : decode cX1_part 46 = .ok (.ldiv, 1) := dk_109 (dk_at dksX1_part_1 22 rfl rfl)
theorem dX1_part_47 : decode cX1_part 47 = .ok (.lreturn, 1) := dk_173 (dk_at dksX1_part_1 23 rfl rfl)
abbrev cX1_half : ByteArray := prog_1_method_44_code
def yX1_half : MethodName := ⟨RX1, "half", "(II)I"⟩
def dkwX1_half_2 : List UInt8 := [184, 1, 100, 148, 157, 0, 5, 29, 172, 132, 3, 1, 167, 255, 218, 2, 172]
abbrev dktX1_half_2 : List UInt8 := dkwX1_half_2 ++ []
def dkwX1_half_1 : List UInt8 := [162, 0, 38, 20, 1, 111, 16, 16, 42, 27, 28, 182, 1, 104, 100, 29, 184, 1, 100, 105, 16, 16, 29]
abbrev dktX1_half_1 : List UInt8 := dkwX1_half_1 ++ dktX1_half_2
def dkwX1_half_0 : List UInt8 := [42, 27, 42, 180, 0, 79, 180, 0, 200, 182, 0, 93, 42, 28, 182, 1, 98, 4, 62, 29, 16, 8]
abbrev dktX1_half_0 : List UInt8 := dkwX1_half_0 ++ dktX1_half_1
theorem dksX1_half_0 : cX1_half.data.toList.drop 0 = dktX1_half_0 := by decide +kernel
theorem dksX1_half_1 : cX1_half.data.toList.drop 22 = dktX1_half_1 := dk_seg dksX1_half_0 22 rfl rfl
theorem dksX1_half_2 : cX1_half.data.toList.drop 45 = dktX1_half_2 := dk_seg dksX1_half_1 23 rfl rfl
theorem dX1_half_0 : decode cX1_half 0 = .ok (.aload_n 0, 1) := dk_42 (dk_at dksX1_half_0 0 rfl rfl)
theorem dX1_half_1 : decode cX1_half 1 = .ok (.iload_n 1, 1) := dk_27 (dk_at dksX1_half_0 1 rfl rfl)
theorem dX1_half_2 : decode cX1_half 2 = .ok (.aload_n 0, 1) := dk_42 (dk_at dksX1_half_0 2 rfl rfl)
theorem dX1_half_3 : decode cX1_half 3 = .ok (.getfield 79, 3) := dk_180 0 79 (dk_at dksX1_half_0 3 rfl rfl)
theorem dX1_half_6 : decode cX1_half 6 = .ok (.getfield 200, 3) := dk_180 0 200 (dk_at dksX1_half_0 6 rfl rfl)
theorem dX1_half_9 : decode cX1_half 9 = .ok (.invokevirtual 93, 3) := dk_182 0 93 (dk_at dksX1_half_0 9 rfl rfl)
theorem dX1_half_12 : decode cX1_half 12 = .ok (.aload_n 0, 1) := dk_42 (dk_at dksX1_half_0 12 rfl rfl)
theorem dX1_half_13 : decode cX1_half 13 = .ok (.iload_n 2, 1) := dk_28 (dk_at dksX1_half_0 13 rfl rfl)
theorem dX1_half_14 : decode cX1_half 14 = .ok (.invokevirtual 354, 3) := dk_182 1 98 (dk_at dksX1_half_0 14 rfl rfl)
theorem dX1_half_17 : decode cX1_half 17 = .ok (.iconst 1, 1) := dk_4 (dk_at dksX1_half_0 17 rfl rfl)
theorem dX1_half_18 : decode cX1_half 18 = .ok (.istore_n 3, 1) := dk_62 (dk_at dksX1_half_0 18 rfl rfl)
theorem dX1_half_19 : decode cX1_half 19 = .ok (.iload_n 3, 1) := dk_29 (dk_at dksX1_half_0 19 rfl rfl)
theorem dX1_half_20 : decode cX1_half 20 = .ok (.bipush 8, 2) := dk_16 8 (dk_at dksX1_half_0 20 rfl rfl)
theorem dX1_half_22 : decode cX1_half 22 = .ok (.if_icmp .ge 38, 3) := dk_162 0 38 (dk_at dksX1_half_1 0 rfl rfl)
theorem dX1_half_25 : decode cX1_half 25 = .ok (.ldc2_w 367, 3) := dk_20 1 111 (dk_at dksX1_half_1 3 rfl rfl)
theorem dX1_half_28 : decode cX1_half 28 = .ok (.bipush 16, 2) := dk_16 16 (dk_at dksX1_half_1 6 rfl rfl)
theorem dX1_half_30 : decode cX1_half 30 = .ok (.aload_n 0, 1) := dk_42 (dk_at dksX1_half_1 8 rfl rfl)
theorem dX1_half_31 : decode cX1_half 31 = .ok (.iload_n 1, 1) := dk_27 (dk_at dksX1_half_1 9 rfl rfl)
theorem dX1_half_32 : decode cX1_half 32 = .ok (.iload_n 2, 1) := dk_28 (dk_at dksX1_half_1 10 rfl rfl)
theorem dX1_half_33 : decode cX1_half 33 = .ok (.invokevirtual 360, 3) := dk_182 1 104 (dk_at dksX1_half_1 11 rfl rfl)
theorem dX1_half_36 : decode cX1_half 36 = .ok (.isub, 1) := dk_100 (dk_at dksX1_half_1 14 rfl rfl)
theorem dX1_half_37 : decode cX1_half 37 = .ok (.iload_n 3, 1) := dk_29 (dk_at dksX1_half_1 15 rfl rfl)
theorem dX1_half_38 : decode cX1_half 38 = .ok (.invokestatic 356, 3) := dk_184 1 100 (dk_at dksX1_half_1 16 rfl rfl)
theorem dX1_half_41 : decode cX1_half 41 = .ok (.lmul, 1) := dk_105 (dk_at dksX1_half_1 19 rfl rfl)
theorem dX1_half_42 : decode cX1_half 42 = .ok (.bipush 16, 2) := dk_16 16 (dk_at dksX1_half_1 20 rfl rfl)
theorem dX1_half_44 : decode cX1_half 44 = .ok (.iload_n 3, 1) := dk_29 (dk_at dksX1_half_1 22 rfl rfl)
theorem dX1_half_45 : decode cX1_half 45 = .ok (.invokestatic 356, 3) := dk_184 1 100 (dk_at dksX1_half_2 0 rfl rfl)
theorem dX1_half_48 : decode cX1_half 48 = .ok (.lcmp, 1) := dk_148 (dk_at dksX1_half_2 3 rfl rfl)
theorem dX1_half_49 : decode cX1_half 49 = .ok (.ifCond .gt 5, 3) := dk_157 0 5 (dk_at dksX1_half_2 4 rfl rfl)
theorem dX1_half_52 : decode cX1_half 52 = .ok (.iload_n 3, 1) := dk_29 (dk_at dksX1_half_2 7 rfl rfl)
theorem dX1_half_53 : decode cX1_half 53 = .ok (.ireturn, 1) := dk_172 (dk_at dksX1_half_2 8 rfl rfl)
theorem dX1_half_54 : decode cX1_half 54 = .ok (.iinc 3 1, 3) := dk_132 3 1 (dk_at dksX1_half_2 9 rfl rfl)
theorem dX1_half_57 : decode cX1_half 57 = .ok (.goto (-38), 3) := dk_167 255 218 (dk_at dksX1_half_2 12 rfl rfl)
theorem dX1_half_60 : decode cX1_half 60 = .ok (.iconst (-1), 1) := dk_2 (dk_at dksX1_half_2 15 rfl rfl)
theorem dX1_half_61 : decode cX1_half 61 = .ok (.ireturn, 1) := dk_172 (dk_at dksX1_half_2 16 rfl rfl)
abbrev cX1_easiest : ByteArray := prog_1_method_45_code
def yX1_easiest : MethodName := ⟨RX1, "easiest", "(I)I"⟩
def dkwX1_easiest_2 : List UInt8 := [167, 255, 220, 28, 172]
abbrev dktX1_easiest_2 : List UInt8 := dkwX1_easiest_2 ++ []
def dkwX1_easiest_1 : List UInt8 := [159, 0, 18, 42, 29, 27, 182, 1, 104, 42, 28, 27, 182, 1, 104, 164, 0, 5, 29, 61, 132, 3, 1]
abbrev dktX1_easiest_1 : List UInt8 := dkwX1_easiest_1 ++ dktX1_easiest_2
def dkwX1_easiest_0 : List UInt8 := [42, 27, 182, 1, 98, 2, 61, 3, 62, 29, 42, 180, 0, 79, 180, 0, 200, 162, 0, 31, 28, 2]
abbrev dktX1_easiest_0 : List UInt8 := dkwX1_easiest_0 ++ dktX1_easiest_1
theorem dksX1_easiest_0 : cX1_easiest.data.toList.drop 0 = dktX1_easiest_0 := by decide +kernel
theorem dksX1_easiest_1 : cX1_easiest.data.toList.drop 22 = dktX1_easiest_1 := dk_seg dksX1_easiest_0 22 rfl rfl
theorem dksX1_easiest_2 : cX1_easiest.data.toList.drop 45 = dktX1_easiest_2 := dk_seg dksX1_easiest_1 23 rfl rfl
theorem dX1_easiest_0 : decode cX1_easiest 0 = .ok (.aload_n 0, 1) := dk_42 (dk_at dksX1_easiest_0 0 rfl rfl)
theorem dX1_easiest_1 : decode cX1_easiest 1 = .ok (.iload_n 1, 1) := dk_27 (dk_at dksX1_easiest_0 1 rfl rfl)
theorem dX1_easiest_2 : decode cX1_easiest 2 = .ok (.invokevirtual 354, 3) := dk_182 1 98 (dk_at dksX1_easiest_0 2 rfl rfl)
theorem dX1_easiest_5 : decode cX1_easiest 5 = .ok (.iconst (-1), 1) := dk_2 (dk_at dksX1_easiest_0 5 rfl rfl)
theorem dX1_easiest_6 : decode cX1_easiest 6 = .ok (.istore_n 2, 1) := dk_61 (dk_at dksX1_easiest_0 6 rfl rfl)
theorem dX1_easiest_7 : decode cX1_easiest 7 = .ok (.iconst 0, 1) := dk_3 (dk_at dksX1_easiest_0 7 rfl rfl)
theorem dX1_easiest_8 : decode cX1_easiest 8 = .ok (.istore_n 3, 1) := dk_62 (dk_at dksX1_easiest_0 8 rfl rfl)
theorem dX1_easiest_9 : decode cX1_easiest 9 = .ok (.iload_n 3, 1) := dk_29 (dk_at dksX1_easiest_0 9 rfl rfl)
theorem dX1_easiest_10 : decode cX1_easiest 10 = .ok (.aload_n 0, 1) := dk_42 (dk_at dksX1_easiest_0 10 rfl rfl)
theorem dX1_easiest_11 : decode cX1_easiest 11 = .ok (.getfield 79, 3) := dk_180 0 79 (dk_at dksX1_easiest_0 11 rfl rfl)
theorem dX1_easiest_14 : decode cX1_easiest 14 = .ok (.getfield 200, 3) := dk_180 0 200 (dk_at dksX1_easiest_0 14 rfl rfl)
theorem dX1_easiest_17 : decode cX1_easiest 17 = .ok (.if_icmp .ge 31, 3) := dk_162 0 31 (dk_at dksX1_easiest_0 17 rfl rfl)
theorem dX1_easiest_20 : decode cX1_easiest 20 = .ok (.iload_n 2, 1) := dk_28 (dk_at dksX1_easiest_0 20 rfl rfl)
theorem dX1_easiest_21 : decode cX1_easiest 21 = .ok (.iconst (-1), 1) := dk_2 (dk_at dksX1_easiest_0 21 rfl rfl)
theorem dX1_easiest_22 : decode cX1_easiest 22 = .ok (.if_icmp .eq 18, 3) := dk_159 0 18 (dk_at dksX1_easiest_1 0 rfl rfl)
theorem dX1_easiest_25 : decode cX1_easiest 25 = .ok (.aload_n 0, 1) := dk_42 (dk_at dksX1_easiest_1 3 rfl rfl)
theorem dX1_easiest_26 : decode cX1_easiest 26 = .ok (.iload_n 3, 1) := dk_29 (dk_at dksX1_easiest_1 4 rfl rfl)
theorem dX1_easiest_27 : decode cX1_easiest 27 = .ok (.iload_n 1, 1) := dk_27 (dk_at dksX1_easiest_1 5 rfl rfl)
theorem dX1_easiest_28 : decode cX1_easiest 28 = .ok (.invokevirtual 360, 3) := dk_182 1 104 (dk_at dksX1_easiest_1 6 rfl rfl)
theorem dX1_easiest_31 : decode cX1_easiest 31 = .ok (.aload_n 0, 1) := dk_42 (dk_at dksX1_easiest_1 9 rfl rfl)
theorem dX1_easiest_32 : decode cX1_easiest 32 = .ok (.iload_n 2, 1) := dk_28 (dk_at dksX1_easiest_1 10 rfl rfl)
theorem dX1_easiest_33 : decode cX1_easiest 33 = .ok (.iload_n 1, 1) := dk_27 (dk_at dksX1_easiest_1 11 rfl rfl)
theorem dX1_easiest_34 : decode cX1_easiest 34 = .ok (.invokevirtual 360, 3) := dk_182 1 104 (dk_at dksX1_easiest_1 12 rfl rfl)
theorem dX1_easiest_37 : decode cX1_easiest 37 = .ok (.if_icmp .le 5, 3) := dk_164 0 5 (dk_at dksX1_easiest_1 15 rfl rfl)
theorem dX1_easiest_40 : decode cX1_easiest 40 = .ok (.iload_n 3, 1) := dk_29 (dk_at dksX1_easiest_1 18 rfl rfl)
theorem dX1_easiest_41 : decode cX1_easiest 41 = .ok (.istore_n 2, 1) := dk_61 (dk_at dksX1_easiest_1 19 rfl rfl)
theorem dX1_easiest_42 : decode cX1_easiest 42 = .ok (.iinc 3 1, 3) := dk_132 3 1 (dk_at dksX1_easiest_1 20 rfl rfl)
theorem dX1_easiest_45 : decode cX1_easiest 45 = .ok (.goto (-36), 3) := dk_167 255 220 (dk_at dksX1_easiest_2 0 rfl rfl)
theorem dX1_easiest_48 : decode cX1_easiest 48 = .ok (.iload_n 2, 1) := dk_28 (dk_at dksX1_easiest_2 3 rfl rfl)
theorem dX1_easiest_49 : decode cX1_easiest 49 = .ok (.ireturn, 1) := dk_172 (dk_at dksX1_easiest_2 4 rfl rfl)
abbrev cX1_waits : ByteArray := prog_1_method_48_code
def yX1_waits : MethodName := ⟨RX1, "waits", "(IIII)J"⟩
def dkwX1_waits_1 : List UInt8 := [28, 29, 182, 1, 116, 16, 16, 16, 8, 184, 1, 100, 21, 4, 184, 1, 107, 173]
abbrev dktX1_waits_1 : List UInt8 := dkwX1_waits_1 ++ []
def dkwX1_waits_0 : List UInt8 := [42, 27, 3, 16, 8, 182, 0, 125, 42, 28, 29, 182, 1, 113, 42, 21, 4, 3, 4, 182, 0, 125, 42, 27]
abbrev dktX1_waits_0 : List UInt8 := dkwX1_waits_0 ++ dktX1_waits_1
theorem dksX1_waits_0 : cX1_waits.data.toList.drop 0 = dktX1_waits_0 := by decide +kernel
theorem dksX1_waits_1 : cX1_waits.data.toList.drop 24 = dktX1_waits_1 := dk_seg dksX1_waits_0 24 rfl rfl
theorem dX1_waits_0 : decode cX1_waits 0 = .ok (.aload_n 0, 1) := dk_42 (dk_at dksX1_waits_0 0 rfl rfl)
theorem dX1_waits_1 : decode cX1_waits 1 = .ok (.iload_n 1, 1) := dk_27 (dk_at dksX1_waits_0 1 rfl rfl)
theorem dX1_waits_2 : decode cX1_waits 2 = .ok (.iconst 0, 1) := dk_3 (dk_at dksX1_waits_0 2 rfl rfl)
theorem dX1_waits_3 : decode cX1_waits 3 = .ok (.bipush 8, 2) := dk_16 8 (dk_at dksX1_waits_0 3 rfl rfl)
theorem dX1_waits_5 : decode cX1_waits 5 = .ok (.invokevirtual 125, 3) := dk_182 0 125 (dk_at dksX1_waits_0 5 rfl rfl)
theorem dX1_waits_8 : decode cX1_waits 8 = .ok (.aload_n 0, 1) := dk_42 (dk_at dksX1_waits_0 8 rfl rfl)
theorem dX1_waits_9 : decode cX1_waits 9 = .ok (.iload_n 2, 1) := dk_28 (dk_at dksX1_waits_0 9 rfl rfl)
theorem dX1_waits_10 : decode cX1_waits 10 = .ok (.iload_n 3, 1) := dk_29 (dk_at dksX1_waits_0 10 rfl rfl)
theorem dX1_waits_11 : decode cX1_waits 11 = .ok (.invokevirtual 369, 3) := dk_182 1 113 (dk_at dksX1_waits_0 11 rfl rfl)
theorem dX1_waits_14 : decode cX1_waits 14 = .ok (.aload_n 0, 1) := dk_42 (dk_at dksX1_waits_0 14 rfl rfl)
theorem dX1_waits_15 : decode cX1_waits 15 = .ok (.iload 4, 2) := dk_21 4 (dk_at dksX1_waits_0 15 rfl rfl)
theorem dX1_waits_17 : decode cX1_waits 17 = .ok (.iconst 0, 1) := dk_3 (dk_at dksX1_waits_0 17 rfl rfl)
theorem dX1_waits_18 : decode cX1_waits 18 = .ok (.iconst 1, 1) := dk_4 (dk_at dksX1_waits_0 18 rfl rfl)
theorem dX1_waits_19 : decode cX1_waits 19 = .ok (.invokevirtual 125, 3) := dk_182 0 125 (dk_at dksX1_waits_0 19 rfl rfl)
theorem dX1_waits_22 : decode cX1_waits 22 = .ok (.aload_n 0, 1) := dk_42 (dk_at dksX1_waits_0 22 rfl rfl)
theorem dX1_waits_23 : decode cX1_waits 23 = .ok (.iload_n 1, 1) := dk_27 (dk_at dksX1_waits_0 23 rfl rfl)
theorem dX1_waits_24 : decode cX1_waits 24 = .ok (.iload_n 2, 1) := dk_28 (dk_at dksX1_waits_1 0 rfl rfl)
theorem dX1_waits_25 : decode cX1_waits 25 = .ok (.iload_n 3, 1) := dk_29 (dk_at dksX1_waits_1 1 rfl rfl)
theorem dX1_waits_26 : decode cX1_waits 26 = .ok (.invokevirtual 372, 3) := dk_182 1 116 (dk_at dksX1_waits_1 2 rfl rfl)
theorem dX1_waits_29 : decode cX1_waits 29 = .ok (.bipush 16, 2) := dk_16 16 (dk_at dksX1_waits_1 5 rfl rfl)
theorem dX1_waits_31 : decode cX1_waits 31 = .ok (.bipush 8, 2) := dk_16 8 (dk_at dksX1_waits_1 7 rfl rfl)
theorem dX1_waits_33 : decode cX1_waits 33 = .ok (.invokestatic 356, 3) := dk_184 1 100 (dk_at dksX1_waits_1 9 rfl rfl)
theorem dX1_waits_36 : decode cX1_waits 36 = .ok (.iload 4, 2) := dk_21 4 (dk_at dksX1_waits_1 12 rfl rfl)
theorem dX1_waits_38 : decode cX1_waits 38 = .ok (.invokestatic 363, 3) := dk_184 1 107 (dk_at dksX1_waits_1 14 rfl rfl)
theorem dX1_waits_41 : decode cX1_waits 41 = .ok (.lreturn, 1) := dk_173 (dk_at dksX1_waits_1 17 rfl rfl)
abbrev cX1_waiting : ByteArray := prog_1_method_47_code
def yX1_waiting : MethodName := ⟨RX1, "waiting", "(II)V"⟩
def dkwX1_waiting_0 : List UInt8 := [42, 27, 3, 17, 0, 240, 182, 0, 125, 42, 28, 3, 17, 0, 240, 182, 0, 125, 177]
abbrev dktX1_waiting_0 : List UInt8 := dkwX1_waiting_0 ++ []
theorem dksX1_waiting_0 : cX1_waiting.data.toList.drop 0 = dktX1_waiting_0 := by decide +kernel
theorem dX1_waiting_0 : decode cX1_waiting 0 = .ok (.aload_n 0, 1) := dk_42 (dk_at dksX1_waiting_0 0 rfl rfl)
theorem dX1_waiting_1 : decode cX1_waiting 1 = .ok (.iload_n 1, 1) := dk_27 (dk_at dksX1_waiting_0 1 rfl rfl)
theorem dX1_waiting_2 : decode cX1_waiting 2 = .ok (.iconst 0, 1) := dk_3 (dk_at dksX1_waiting_0 2 rfl rfl)
theorem dX1_waiting_3 : decode cX1_waiting 3 = .ok (.sipush 240, 3) := dk_17 0 240 (dk_at dksX1_waiting_0 3 rfl rfl)
theorem dX1_waiting_6 : decode cX1_waiting 6 = .ok (.invokevirtual 125, 3) := dk_182 0 125 (dk_at dksX1_waiting_0 6 rfl rfl)
theorem dX1_waiting_9 : decode cX1_waiting 9 = .ok (.aload_n 0, 1) := dk_42 (dk_at dksX1_waiting_0 9 rfl rfl)
theorem dX1_waiting_10 : decode cX1_waiting 10 = .ok (.iload_n 2, 1) := dk_28 (dk_at dksX1_waiting_0 10 rfl rfl)
theorem dX1_waiting_11 : decode cX1_waiting 11 = .ok (.iconst 0, 1) := dk_3 (dk_at dksX1_waiting_0 11 rfl rfl)
theorem dX1_waiting_12 : decode cX1_waiting 12 = .ok (.sipush 240, 3) := dk_17 0 240 (dk_at dksX1_waiting_0 12 rfl rfl)
theorem dX1_waiting_15 : decode cX1_waiting 15 = .ok (.invokevirtual 125, 3) := dk_182 0 125 (dk_at dksX1_waiting_0 15 rfl rfl)
theorem dX1_waiting_18 : decode cX1_waiting 18 = .ok (.return_, 1) := dk_177 (dk_at dksX1_waiting_0 18 rfl rfl)
abbrev cX1_meanOf : ByteArray := prog_1_method_46_code
def yX1_meanOf : MethodName := ⟨RX1, "meanOf", "(III)J"⟩
def dkwX1_meanOf_4 : List UInt8 := [133, 105, 97, 173]
abbrev dktX1_meanOf_4 : List UInt8 := dkwX1_meanOf_4 ++ []
def dkwX1_meanOf_3 : List UInt8 := [180, 0, 79, 180, 0, 209, 100, 27, 184, 1, 100, 16, 16, 16, 8, 27, 100, 184, 1, 100, 105, 27, 28, 96]
abbrev dktX1_meanOf_3 : List UInt8 := dkwX1_meanOf_3 ++ dktX1_meanOf_4
def dkwX1_meanOf_2 : List UInt8 := [184, 1, 100, 105, 21, 6, 29, 96, 133, 105, 97, 55, 4, 132, 6, 1, 167, 255, 199, 22, 4, 16, 16, 42]
abbrev dktX1_meanOf_2 : List UInt8 := dkwX1_meanOf_2 ++ dktX1_meanOf_3
def dkwX1_meanOf_1 : List UInt8 := [42, 180, 0, 79, 180, 0, 209, 100, 21, 6, 4, 100, 184, 1, 100, 105, 16, 16, 16, 8, 21, 6, 100]
abbrev dktX1_meanOf_1 : List UInt8 := dkwX1_meanOf_1 ++ dktX1_meanOf_2
def dkwX1_meanOf_0 : List UInt8 := [9, 55, 4, 4, 54, 6, 21, 6, 27, 163, 0, 57, 22, 4, 42, 180, 0, 79, 180, 0, 209, 133, 16, 16]
abbrev dktX1_meanOf_0 : List UInt8 := dkwX1_meanOf_0 ++ dktX1_meanOf_1
theorem dksX1_meanOf_0 : cX1_meanOf.data.toList.drop 0 = dktX1_meanOf_0 := by decide +kernel
theorem dksX1_meanOf_1 : cX1_meanOf.data.toList.drop 24 = dktX1_meanOf_1 := dk_seg dksX1_meanOf_0 24 rfl rfl
theorem dksX1_meanOf_2 : cX1_meanOf.data.toList.drop 47 = dktX1_meanOf_2 := dk_seg dksX1_meanOf_1 23 rfl rfl
theorem dksX1_meanOf_3 : cX1_meanOf.data.toList.drop 71 = dktX1_meanOf_3 := dk_seg dksX1_meanOf_2 24 rfl rfl
theorem dksX1_meanOf_4 : cX1_meanOf.data.toList.drop 95 = dktX1_meanOf_4 := dk_seg dksX1_meanOf_3 24 rfl rfl
theorem dX1_meanOf_0 : decode cX1_meanOf 0 = .ok (.lconst 0, 1) := dk_9 (dk_at dksX1_meanOf_0 0 rfl rfl)
theorem dX1_meanOf_1 : decode cX1_meanOf 1 = .ok (.lstore 4, 2) := dk_55 4 (dk_at dksX1_meanOf_0 1 rfl rfl)
theorem dX1_meanOf_3 : decode cX1_meanOf 3 = .ok (.iconst 1, 1) := dk_4 (dk_at dksX1_meanOf_0 3 rfl rfl)
theorem dX1_meanOf_4 : decode cX1_meanOf 4 = .ok (.istore 6, 2) := dk_54 6 (dk_at dksX1_meanOf_0 4 rfl rfl)
theorem dX1_meanOf_6 : decode cX1_meanOf 6 = .ok (.iload 6, 2) := dk_21 6 (dk_at dksX1_meanOf_0 6 rfl rfl)
theorem dX1_meanOf_8 : decode cX1_meanOf 8 = .ok (.iload_n 1, 1) := dk_27 (dk_at dksX1_meanOf_0 8 rfl rfl)
theorem dX1_meanOf_9 : decode cX1_meanOf 9 = .ok (.if_icmp .gt 57, 3) := dk_163 0 57 (dk_at dksX1_meanOf_0 9 rfl rfl)
theorem dX1_meanOf_12 : decode cX1_meanOf 12 = .ok (.lload 4, 2) := dk_22 4 (dk_at dksX1_meanOf_0 12 rfl rfl)
theorem dX1_meanOf_14 : decode cX1_meanOf 14 = .ok (.aload_n 0, 1) := dk_42 (dk_at dksX1_meanOf_0 14 rfl rfl)
theorem dX1_meanOf_15 : decode cX1_meanOf 15 = .ok (.getfield 79, 3) := dk_180 0 79 (dk_at dksX1_meanOf_0 15 rfl rfl)
theorem dX1_meanOf_18 : decode cX1_meanOf 18 = .ok (.getfield 209, 3) := dk_180 0 209 (dk_at dksX1_meanOf_0 18 rfl rfl)
theorem dX1_meanOf_21 : decode cX1_meanOf 21 = .ok (.i2l, 1) := dk_133 (dk_at dksX1_meanOf_0 21 rfl rfl)
theorem dX1_meanOf_22 : decode cX1_meanOf 22 = .ok (.bipush 16, 2) := dk_16 16 (dk_at dksX1_meanOf_0 22 rfl rfl)
theorem dX1_meanOf_24 : decode cX1_meanOf 24 = .ok (.aload_n 0, 1) := dk_42 (dk_at dksX1_meanOf_1 0 rfl rfl)
theorem dX1_meanOf_25 : decode cX1_meanOf 25 = .ok (.getfield 79, 3) := dk_180 0 79 (dk_at dksX1_meanOf_1 1 rfl rfl)
theorem dX1_meanOf_28 : decode cX1_meanOf 28 = .ok (.getfield 209, 3) := dk_180 0 209 (dk_at dksX1_meanOf_1 4 rfl rfl)
theorem dX1_meanOf_31 : decode cX1_meanOf 31 = .ok (.isub, 1) := dk_100 (dk_at dksX1_meanOf_1 7 rfl rfl)
theorem dX1_meanOf_32 : decode cX1_meanOf 32 = .ok (.iload 6, 2) := dk_21 6 (dk_at dksX1_meanOf_1 8 rfl rfl)
theorem dX1_meanOf_34 : decode cX1_meanOf 34 = .ok (.iconst 1, 1) := dk_4 (dk_at dksX1_meanOf_1 10 rfl rfl)
theorem dX1_meanOf_35 : decode cX1_meanOf 35 = .ok (.isub, 1) := dk_100 (dk_at dksX1_meanOf_1 11 rfl rfl)
theorem dX1_meanOf_36 : decode cX1_meanOf 36 = .ok (.invokestatic 356, 3) := dk_184 1 100 (dk_at dksX1_meanOf_1 12 rfl rfl)
theorem dX1_meanOf_39 : decode cX1_meanOf 39 = .ok (.lmul, 1) := dk_105 (dk_at dksX1_meanOf_1 15 rfl rfl)
theorem dX1_meanOf_40 : decode cX1_meanOf 40 = .ok (.bipush 16, 2) := dk_16 16 (dk_at dksX1_meanOf_1 16 rfl rfl)
theorem dX1_meanOf_42 : decode cX1_meanOf 42 = .ok (.bipush 8, 2) := dk_16 8 (dk_at dksX1_meanOf_1 18 rfl rfl)
theorem dX1_meanOf_44 : decode cX1_meanOf 44 = .ok (.iload 6, 2) := dk_21 6 (dk_at dksX1_meanOf_1 20 rfl rfl)
theorem dX1_meanOf_46 : decode cX1_meanOf 46 = .ok (.isub, 1) := dk_100 (dk_at dksX1_meanOf_1 22 rfl rfl)
theorem dX1_meanOf_47 : decode cX1_meanOf 47 = .ok (.invokestatic 356, 3) := dk_184 1 100 (dk_at dksX1_meanOf_2 0 rfl rfl)
theorem dX1_meanOf_50 : decode cX1_meanOf 50 = .ok (.lmul, 1) := dk_105 (dk_at dksX1_meanOf_2 3 rfl rfl)
theorem dX1_meanOf_51 : decode cX1_meanOf 51 = .ok (.iload 6, 2) := dk_21 6 (dk_at dksX1_meanOf_2 4 rfl rfl)
theorem dX1_meanOf_53 : decode cX1_meanOf 53 = .ok (.iload_n 3, 1) := dk_29 (dk_at dksX1_meanOf_2 6 rfl rfl)
theorem dX1_meanOf_54 : decode cX1_meanOf 54 = .ok (.iadd, 1) := dk_96 (dk_at dksX1_meanOf_2 7 rfl rfl)
theorem dX1_meanOf_55 : decode cX1_meanOf 55 = .ok (.i2l, 1) := dk_133 (dk_at dksX1_meanOf_2 8 rfl rfl)
theorem dX1_meanOf_56 : decode cX1_meanOf 56 = .ok (.lmul, 1) := dk_105 (dk_at dksX1_meanOf_2 9 rfl rfl)
theorem dX1_meanOf_57 : decode cX1_meanOf 57 = .ok (.ladd, 1) := dk_97 (dk_at dksX1_meanOf_2 10 rfl rfl)
theorem dX1_meanOf_58 : decode cX1_meanOf 58 = .ok (.lstore 4, 2) := dk_55 4 (dk_at dksX1_meanOf_2 11 rfl rfl)
theorem dX1_meanOf_60 : decode cX1_meanOf 60 = .ok (.iinc 6 1, 3) := dk_132 6 1 (dk_at dksX1_meanOf_2 13 rfl rfl)
theorem dX1_meanOf_63 : decode cX1_meanOf 63 = .ok (.goto (-57), 3) := dk_167 255 199 (dk_at dksX1_meanOf_2 16 rfl rfl)
theorem dX1_meanOf_66 : decode cX1_meanOf 66 = .ok (.lload 4, 2) := dk_22 4 (dk_at dksX1_meanOf_2 19 rfl rfl)
theorem dX1_meanOf_68 : decode cX1_meanOf 68 = .ok (.bipush 16, 2) := dk_16 16 (dk_at dksX1_meanOf_2 21 rfl rfl)
theorem dX1_meanOf_70 : decode cX1_meanOf 70 = .ok (.aload_n 0, 1) := dk_42 (dk_at dksX1_meanOf_2 23 rfl rfl)
theorem dX1_meanOf_71 : decode cX1_meanOf 71 = .ok (.getfield 79, 3) := dk_180 0 79 (dk_at dksX1_meanOf_3 0 rfl rfl)
theorem dX1_meanOf_74 : decode cX1_meanOf 74 = .ok (.getfield 209, 3) := dk_180 0 209 (dk_at dksX1_meanOf_3 3 rfl rfl)
theorem dX1_meanOf_77 : decode cX1_meanOf 77 = .ok (.isub, 1) := dk_100 (dk_at dksX1_meanOf_3 6 rfl rfl)
theorem dX1_meanOf_78 : decode cX1_meanOf 78 = .ok (.iload_n 1, 1) := dk_27 (dk_at dksX1_meanOf_3 7 rfl rfl)
theorem dX1_meanOf_79 : decode cX1_meanOf 79 = .ok (.invokestatic 356, 3) := dk_184 1 100 (dk_at dksX1_meanOf_3 8 rfl rfl)
theorem dX1_meanOf_82 : decode cX1_meanOf 82 = .ok (.bipush 16, 2) := dk_16 16 (dk_at dksX1_meanOf_3 11 rfl rfl)
theorem dX1_meanOf_84 : decode cX1_meanOf 84 = .ok (.bipush 8, 2) := dk_16 8 (dk_at dksX1_meanOf_3 13 rfl rfl)
theorem dX1_meanOf_86 : decode cX1_meanOf 86 = .ok (.iload_n 1, 1) := dk_27 (dk_at dksX1_meanOf_3 15 rfl rfl)
theorem dX1_meanOf_87 : decode cX1_meanOf 87 = .ok (.isub, 1) := dk_100 (dk_at dksX1_meanOf_3 16 rfl rfl)
theorem dX1_meanOf_88 : decode cX1_meanOf 88 = .ok (.invokestatic 356, 3) := dk_184 1 100 (dk_at dksX1_meanOf_3 17 rfl rfl)
theorem dX1_meanOf_91 : decode cX1_meanOf 91 = .ok (.lmul, 1) := dk_105 (dk_at dksX1_meanOf_3 20 rfl rfl)
theorem dX1_meanOf_92 : decode cX1_meanOf 92 = .ok (.iload_n 1, 1) := dk_27 (dk_at dksX1_meanOf_3 21 rfl rfl)
theorem dX1_meanOf_93 : decode cX1_meanOf 93 = .ok (.iload_n 2, 1) := dk_28 (dk_at dksX1_meanOf_3 22 rfl rfl)
theorem dX1_meanOf_94 : decode cX1_meanOf 94 = .ok (.iadd, 1) := dk_96 (dk_at dksX1_meanOf_3 23 rfl rfl)
theorem dX1_meanOf_95 : decode cX1_meanOf 95 = .ok (.i2l, 1) := dk_133 (dk_at dksX1_meanOf_4 0 rfl rfl)
theorem dX1_meanOf_96 : decode cX1_meanOf 96 = .ok (.lmul, 1) := dk_105 (dk_at dksX1_meanOf_4 1 rfl rfl)
theorem dX1_meanOf_97 : decode cX1_meanOf 97 = .ok (.ladd, 1) := dk_97 (dk_at dksX1_meanOf_4 2 rfl rfl)
theorem dX1_meanOf_98 : decode cX1_meanOf 98 = .ok (.lreturn, 1) := dk_173 (dk_at dksX1_meanOf_4 3 rfl rfl)
abbrev cX1_await : ByteArray := prog_1_method_49_code
def yX1_await : MethodName := ⟨RX1, "await", "(II)I"⟩
def dkwX1_await_2 : List UInt8 := [172]
abbrev dktX1_await_2 : List UInt8 := dkwX1_await_2 ++ []
def dkwX1_await_1 : List UInt8 := [182, 1, 116, 42, 29, 27, 28, 182, 1, 116, 148, 156, 0, 6, 21, 4, 62, 132, 4, 1, 167, 255, 224, 29]
abbrev dktX1_await_1 : List UInt8 := dkwX1_await_1 ++ dktX1_await_2
def dkwX1_await_0 : List UInt8 := [42, 27, 28, 182, 1, 113, 3, 62, 4, 54, 4, 21, 4, 16, 8, 163, 0, 31, 42, 21, 4, 27, 28]
abbrev dktX1_await_0 : List UInt8 := dkwX1_await_0 ++ dktX1_await_1
theorem dksX1_await_0 : cX1_await.data.toList.drop 0 = dktX1_await_0 := by decide +kernel
theorem dksX1_await_1 : cX1_await.data.toList.drop 23 = dktX1_await_1 := dk_seg dksX1_await_0 23 rfl rfl
theorem dksX1_await_2 : cX1_await.data.toList.drop 47 = dktX1_await_2 := dk_seg dksX1_await_1 24 rfl rfl
theorem dX1_await_0 : decode cX1_await 0 = .ok (.aload_n 0, 1) := dk_42 (dk_at dksX1_await_0 0 rfl rfl)
theorem dX1_await_1 : decode cX1_await 1 = .ok (.iload_n 1, 1) := dk_27 (dk_at dksX1_await_0 1 rfl rfl)
theorem dX1_await_2 : decode cX1_await 2 = .ok (.iload_n 2, 1) := dk_28 (dk_at dksX1_await_0 2 rfl rfl)
theorem dX1_await_3 : decode cX1_await 3 = .ok (.invokevirtual 369, 3) := dk_182 1 113 (dk_at dksX1_await_0 3 rfl rfl)
theorem dX1_await_6 : decode cX1_await 6 = .ok (.iconst 0, 1) := dk_3 (dk_at dksX1_await_0 6 rfl rfl)
theorem dX1_await_7 : decode cX1_await 7 = .ok (.istore_n 3, 1) := dk_62 (dk_at dksX1_await_0 7 rfl rfl)
theorem dX1_await_8 : decode cX1_await 8 = .ok (.iconst 1, 1) := dk_4 (dk_at dksX1_await_0 8 rfl rfl)
theorem dX1_await_9 : decode cX1_await 9 = .ok (.istore 4, 2) := dk_54 4 (dk_at dksX1_await_0 9 rfl rfl)
theorem dX1_await_11 : decode cX1_await 11 = .ok (.iload 4, 2) := dk_21 4 (dk_at dksX1_await_0 11 rfl rfl)
theorem dX1_await_13 : decode cX1_await 13 = .ok (.bipush 8, 2) := dk_16 8 (dk_at dksX1_await_0 13 rfl rfl)
theorem dX1_await_15 : decode cX1_await 15 = .ok (.if_icmp .gt 31, 3) := dk_163 0 31 (dk_at dksX1_await_0 15 rfl rfl)
theorem dX1_await_18 : decode cX1_await 18 = .ok (.aload_n 0, 1) := dk_42 (dk_at dksX1_await_0 18 rfl rfl)
theorem dX1_await_19 : decode cX1_await 19 = .ok (.iload 4, 2) := dk_21 4 (dk_at dksX1_await_0 19 rfl rfl)
theorem dX1_await_21 : decode cX1_await 21 = .ok (.iload_n 1, 1) := dk_27 (dk_at dksX1_await_0 21 rfl rfl)
theorem dX1_await_22 : decode cX1_await 22 = .ok (.iload_n 2, 1) := dk_28 (dk_at dksX1_await_0 22 rfl rfl)
theorem dX1_await_23 : decode cX1_await 23 = .ok (.invokevirtual 372, 3) := dk_182 1 116 (dk_at dksX1_await_1 0 rfl rfl)
theorem dX1_await_26 : decode cX1_await 26 = .ok (.aload_n 0, 1) := dk_42 (dk_at dksX1_await_1 3 rfl rfl)
theorem dX1_await_27 : decode cX1_await 27 = .ok (.iload_n 3, 1) := dk_29 (dk_at dksX1_await_1 4 rfl rfl)
theorem dX1_await_28 : decode cX1_await 28 = .ok (.iload_n 1, 1) := dk_27 (dk_at dksX1_await_1 5 rfl rfl)
theorem dX1_await_29 : decode cX1_await 29 = .ok (.iload_n 2, 1) := dk_28 (dk_at dksX1_await_1 6 rfl rfl)
theorem dX1_await_30 : decode cX1_await 30 = .ok (.invokevirtual 372, 3) := dk_182 1 116 (dk_at dksX1_await_1 7 rfl rfl)
theorem dX1_await_33 : decode cX1_await 33 = .ok (.lcmp, 1) := dk_148 (dk_at dksX1_await_1 10 rfl rfl)
theorem dX1_await_34 : decode cX1_await 34 = .ok (.ifCond .ge 6, 3) := dk_156 0 6 (dk_at dksX1_await_1 11 rfl rfl)
theorem dX1_await_37 : decode cX1_await 37 = .ok (.iload 4, 2) := dk_21 4 (dk_at dksX1_await_1 14 rfl rfl)
theorem dX1_await_39 : decode cX1_await 39 = .ok (.istore_n 3, 1) := dk_62 (dk_at dksX1_await_1 16 rfl rfl)
theorem dX1_await_40 : decode cX1_await 40 = .ok (.iinc 4 1, 3) := dk_132 4 1 (dk_at dksX1_await_1 17 rfl rfl)
theorem dX1_await_43 : decode cX1_await 43 = .ok (.goto (-32), 3) := dk_167 255 224 (dk_at dksX1_await_1 20 rfl rfl)
theorem dX1_await_46 : decode cX1_await 46 = .ok (.iload_n 3, 1) := dk_29 (dk_at dksX1_await_1 23 rfl rfl)
theorem dX1_await_47 : decode cX1_await 47 = .ok (.ireturn, 1) := dk_172 (dk_at dksX1_await_2 0 rfl rfl)
abbrev cX1_cross : ByteArray := prog_1_method_50_code
def yX1_cross : MethodName := ⟨RX1, "cross", "(II)I"⟩
def dkwX1_cross_1 : List UInt8 := [154, 0, 13, 42, 180, 0, 65, 180, 1, 122, 167, 0, 10, 42, 180, 0, 65, 180, 1, 125, 172]
abbrev dktX1_cross_1 : List UInt8 := dkwX1_cross_1 ++ []
def dkwX1_cross_0 : List UInt8 := [42, 27, 6, 16, 6, 182, 0, 125, 42, 28, 3, 4, 182, 0, 125, 42, 180, 0, 65, 27, 182, 1, 120, 28]
abbrev dktX1_cross_0 : List UInt8 := dkwX1_cross_0 ++ dktX1_cross_1
theorem dksX1_cross_0 : cX1_cross.data.toList.drop 0 = dktX1_cross_0 := by decide +kernel
theorem dksX1_cross_1 : cX1_cross.data.toList.drop 24 = dktX1_cross_1 := dk_seg dksX1_cross_0 24 rfl rfl
theorem dX1_cross_0 : decode cX1_cross 0 = .ok (.aload_n 0, 1) := dk_42 (dk_at dksX1_cross_0 0 rfl rfl)
theorem dX1_cross_1 : decode cX1_cross 1 = .ok (.iload_n 1, 1) := dk_27 (dk_at dksX1_cross_0 1 rfl rfl)
theorem dX1_cross_2 : decode cX1_cross 2 = .ok (.iconst 3, 1) := dk_6 (dk_at dksX1_cross_0 2 rfl rfl)
theorem dX1_cross_3 : decode cX1_cross 3 = .ok (.bipush 6, 2) := dk_16 6 (dk_at dksX1_cross_0 3 rfl rfl)
theorem dX1_cross_5 : decode cX1_cross 5 = .ok (.invokevirtual 125, 3) := dk_182 0 125 (dk_at dksX1_cross_0 5 rfl rfl)
theorem dX1_cross_8 : decode cX1_cross 8 = .ok (.aload_n 0, 1) := dk_42 (dk_at dksX1_cross_0 8 rfl rfl)
theorem dX1_cross_9 : decode cX1_cross 9 = .ok (.iload_n 2, 1) := dk_28 (dk_at dksX1_cross_0 9 rfl rfl)
theorem dX1_cross_10 : decode cX1_cross 10 = .ok (.iconst 0, 1) := dk_3 (dk_at dksX1_cross_0 10 rfl rfl)
theorem dX1_cross_11 : decode cX1_cross 11 = .ok (.iconst 1, 1) := dk_4 (dk_at dksX1_cross_0 11 rfl rfl)
theorem dX1_cross_12 : decode cX1_cross 12 = .ok (.invokevirtual 125, 3) := dk_182 0 125 (dk_at dksX1_cross_0 12 rfl rfl)
theorem dX1_cross_15 : decode cX1_cross 15 = .ok (.aload_n 0, 1) := dk_42 (dk_at dksX1_cross_0 15 rfl rfl)
theorem dX1_cross_16 : decode cX1_cross 16 = .ok (.getfield 65, 3) := dk_180 0 65 (dk_at dksX1_cross_0 16 rfl rfl)
theorem dX1_cross_19 : decode cX1_cross 19 = .ok (.iload_n 1, 1) := dk_27 (dk_at dksX1_cross_0 19 rfl rfl)
theorem dX1_cross_20 : decode cX1_cross 20 = .ok (.invokevirtual 376, 3) := dk_182 1 120 (dk_at dksX1_cross_0 20 rfl rfl)
theorem dX1_cross_23 : decode cX1_cross 23 = .ok (.iload_n 2, 1) := dk_28 (dk_at dksX1_cross_0 23 rfl rfl)
theorem dX1_cross_24 : decode cX1_cross 24 = .ok (.ifCond .ne 13, 3) := dk_154 0 13 (dk_at dksX1_cross_1 0 rfl rfl)
theorem dX1_cross_27 : decode cX1_cross 27 = .ok (.aload_n 0, 1) := dk_42 (dk_at dksX1_cross_1 3 rfl rfl)
theorem dX1_cross_28 : decode cX1_cross 28 = .ok (.getfield 65, 3) := dk_180 0 65 (dk_at dksX1_cross_1 4 rfl rfl)
theorem dX1_cross_31 : decode cX1_cross 31 = .ok (.getfield 378, 3) := dk_180 1 122 (dk_at dksX1_cross_1 7 rfl rfl)
theorem dX1_cross_34 : decode cX1_cross 34 = .ok (.goto 10, 3) := dk_167 0 10 (dk_at dksX1_cross_1 10 rfl rfl)
theorem dX1_cross_37 : decode cX1_cross 37 = .ok (.aload_n 0, 1) := dk_42 (dk_at dksX1_cross_1 13 rfl rfl)
theorem dX1_cross_38 : decode cX1_cross 38 = .ok (.getfield 65, 3) := dk_180 0 65 (dk_at dksX1_cross_1 14 rfl rfl)
theorem dX1_cross_41 : decode cX1_cross 41 = .ok (.getfield 381, 3) := dk_180 1 125 (dk_at dksX1_cross_1 17 rfl rfl)
theorem dX1_cross_44 : decode cX1_cross 44 = .ok (.ireturn, 1) := dk_172 (dk_at dksX1_cross_1 20 rfl rfl)
abbrev cX1_crooked : ByteArray := prog_1_method_51_code
def yX1_crooked : MethodName := ⟨RX1, "crooked", "(I)I"⟩
def dkwX1_crooked_5 : List UInt8 := [108, 54, 6, 167, 255, 183, 21, 4, 172]
abbrev dktX1_crooked_5 : List UInt8 := dkwX1_crooked_5 ++ []
def dkwX1_crooked_4 : List UInt8 := [159, 0, 16, 21, 4, 28, 21, 5, 21, 7, 184, 1, 128, 96, 54, 4, 21, 7, 54, 5, 21, 6, 16, 10]
abbrev dktX1_crooked_4 : List UInt8 := dkwX1_crooked_4 ++ dktX1_crooked_5
def dkwX1_crooked_3 : List UInt8 := [42, 29, 21, 7, 122, 4, 126, 3, 3, 182, 0, 125, 29, 4, 21, 7, 120, 128, 62, 21, 5, 2]
abbrev dktX1_crooked_3 : List UInt8 := dkwX1_crooked_3 ++ dktX1_crooked_4
def dkwX1_crooked_2 : List UInt8 := [21, 6, 158, 0, 74, 21, 6, 16, 10, 112, 4, 100, 54, 7, 42, 21, 7, 3, 28, 4, 100, 182, 0, 125]
abbrev dktX1_crooked_2 : List UInt8 := dkwX1_crooked_2 ++ dktX1_crooked_3
def dkwX1_crooked_1 : List UInt8 := [132, 2, 1, 21, 6, 16, 10, 108, 54, 6, 167, 255, 235, 42, 28, 6, 16, 6, 182, 0, 125, 27, 54, 6]
abbrev dktX1_crooked_1 : List UInt8 := dkwX1_crooked_1 ++ dktX1_crooked_2
def dkwX1_crooked_0 : List UInt8 := [3, 61, 3, 62, 3, 54, 4, 2, 54, 5, 27, 54, 6, 21, 6, 158, 0, 22, 28, 16, 7, 162, 0, 16]
abbrev dktX1_crooked_0 : List UInt8 := dkwX1_crooked_0 ++ dktX1_crooked_1
theorem dksX1_crooked_0 : cX1_crooked.data.toList.drop 0 = dktX1_crooked_0 := by decide +kernel
theorem dksX1_crooked_1 : cX1_crooked.data.toList.drop 24 = dktX1_crooked_1 := dk_seg dksX1_crooked_0 24 rfl rfl
theorem dksX1_crooked_2 : cX1_crooked.data.toList.drop 48 = dktX1_crooked_2 := dk_seg dksX1_crooked_1 24 rfl rfl
theorem dksX1_crooked_3 : cX1_crooked.data.toList.drop 72 = dktX1_crooked_3 := dk_seg dksX1_crooked_2 24 rfl rfl
theorem dksX1_crooked_4 : cX1_crooked.data.toList.drop 94 = dktX1_crooked_4 := dk_seg dksX1_crooked_3 22 rfl rfl
theorem dksX1_crooked_5 : cX1_crooked.data.toList.drop 118 = dktX1_crooked_5 := dk_seg dksX1_crooked_4 24 rfl rfl
theorem dX1_crooked_0 : decode cX1_crooked 0 = .ok (.iconst 0, 1) := dk_3 (dk_at dksX1_crooked_0 0 rfl rfl)
theorem dX1_crooked_1 : decode cX1_crooked 1 = .ok (.istore_n 2, 1) := dk_61 (dk_at dksX1_crooked_0 1 rfl rfl)
theorem dX1_crooked_2 : decode cX1_crooked 2 = .ok (.iconst 0, 1) := dk_3 (dk_at dksX1_crooked_0 2 rfl rfl)
theorem dX1_crooked_3 : decode cX1_crooked 3 = .ok (.istore_n 3, 1) := dk_62 (dk_at dksX1_crooked_0 3 rfl rfl)
theorem dX1_crooked_4 : decode cX1_crooked 4 = .ok (.iconst 0, 1) := dk_3 (dk_at dksX1_crooked_0 4 rfl rfl)
theorem dX1_crooked_5 : decode cX1_crooked 5 = .ok (.istore 4, 2) := dk_54 4 (dk_at dksX1_crooked_0 5 rfl rfl)
theorem dX1_crooked_7 : decode cX1_crooked 7 = .ok (.iconst (-1), 1) := dk_2 (dk_at dksX1_crooked_0 7 rfl rfl)
theorem dX1_crooked_8 : decode cX1_crooked 8 = .ok (.istore 5, 2) := dk_54 5 (dk_at dksX1_crooked_0 8 rfl rfl)
theorem dX1_crooked_10 : decode cX1_crooked 10 = .ok (.iload_n 1, 1) := dk_27 (dk_at dksX1_crooked_0 10 rfl rfl)
theorem dX1_crooked_11 : decode cX1_crooked 11 = .ok (.istore 6, 2) := dk_54 6 (dk_at dksX1_crooked_0 11 rfl rfl)
theorem dX1_crooked_13 : decode cX1_crooked 13 = .ok (.iload 6, 2) := dk_21 6 (dk_at dksX1_crooked_0 13 rfl rfl)
theorem dX1_crooked_15 : decode cX1_crooked 15 = .ok (.ifCond .le 22, 3) := dk_158 0 22 (dk_at dksX1_crooked_0 15 rfl rfl)
theorem dX1_crooked_18 : decode cX1_crooked 18 = .ok (.iload_n 2, 1) := dk_28 (dk_at dksX1_crooked_0 18 rfl rfl)
theorem dX1_crooked_19 : decode cX1_crooked 19 = .ok (.bipush 7, 2) := dk_16 7 (dk_at dksX1_crooked_0 19 rfl rfl)
theorem dX1_crooked_21 : decode cX1_crooked 21 = .ok (.if_icmp .ge 16, 3) := dk_162 0 16 (dk_at dksX1_crooked_0 21 rfl rfl)
theorem dX1_crooked_24 : decode cX1_crooked 24 = .ok (.iinc 2 1, 3) := dk_132 2 1 (dk_at dksX1_crooked_1 0 rfl rfl)
theorem dX1_crooked_27 : decode cX1_crooked 27 = .ok (.iload 6, 2) := dk_21 6 (dk_at dksX1_crooked_1 3 rfl rfl)
theorem dX1_crooked_29 : decode cX1_crooked 29 = .ok (.bipush 10, 2) := dk_16 10 (dk_at dksX1_crooked_1 5 rfl rfl)
theorem dX1_crooked_31 : decode cX1_crooked 31 = .ok (.idiv, 1) := dk_108 (dk_at dksX1_crooked_1 7 rfl rfl)
theorem dX1_crooked_32 : decode cX1_crooked 32 = .ok (.istore 6, 2) := dk_54 6 (dk_at dksX1_crooked_1 8 rfl rfl)
theorem dX1_crooked_34 : decode cX1_crooked 34 = .ok (.goto (-21), 3) := dk_167 255 235 (dk_at dksX1_crooked_1 10 rfl rfl)
theorem dX1_crooked_37 : decode cX1_crooked 37 = .ok (.aload_n 0, 1) := dk_42 (dk_at dksX1_crooked_1 13 rfl rfl)
theorem dX1_crooked_38 : decode cX1_crooked 38 = .ok (.iload_n 2, 1) := dk_28 (dk_at dksX1_crooked_1 14 rfl rfl)
theorem dX1_crooked_39 : decode cX1_crooked 39 = .ok (.iconst 3, 1) := dk_6 (dk_at dksX1_crooked_1 15 rfl rfl)
theorem dX1_crooked_40 : decode cX1_crooked 40 = .ok (.bipush 6, 2) := dk_16 6 (dk_at dksX1_crooked_1 16 rfl rfl)
theorem dX1_crooked_42 : decode cX1_crooked 42 = .ok (.invokevirtual 125, 3) := dk_182 0 125 (dk_at dksX1_crooked_1 18 rfl rfl)
theorem dX1_crooked_45 : decode cX1_crooked 45 = .ok (.iload_n 1, 1) := dk_27 (dk_at dksX1_crooked_1 21 rfl rfl)
theorem dX1_crooked_46 : decode cX1_crooked 46 = .ok (.istore 6, 2) := dk_54 6 (dk_at dksX1_crooked_1 22 rfl rfl)
theorem dX1_crooked_48 : decode cX1_crooked 48 = .ok (.iload 6, 2) := dk_21 6 (dk_at dksX1_crooked_2 0 rfl rfl)
theorem dX1_crooked_50 : decode cX1_crooked 50 = .ok (.ifCond .le 74, 3) := dk_158 0 74 (dk_at dksX1_crooked_2 2 rfl rfl)
theorem dX1_crooked_53 : decode cX1_crooked 53 = .ok (.iload 6, 2) := dk_21 6 (dk_at dksX1_crooked_2 5 rfl rfl)
theorem dX1_crooked_55 : decode cX1_crooked 55 = .ok (.bipush 10, 2) := dk_16 10 (dk_at dksX1_crooked_2 7 rfl rfl)
theorem dX1_crooked_57 : decode cX1_crooked 57 = .ok (.irem, 1) := dk_112 (dk_at dksX1_crooked_2 9 rfl rfl)
theorem dX1_crooked_58 : decode cX1_crooked 58 = .ok (.iconst 1, 1) := dk_4 (dk_at dksX1_crooked_2 10 rfl rfl)
theorem dX1_crooked_59 : decode cX1_crooked 59 = .ok (.isub, 1) := dk_100 (dk_at dksX1_crooked_2 11 rfl rfl)
theorem dX1_crooked_60 : decode cX1_crooked 60 = .ok (.istore 7, 2) := dk_54 7 (dk_at dksX1_crooked_2 12 rfl rfl)
theorem dX1_crooked_62 : decode cX1_crooked 62 = .ok (.aload_n 0, 1) := dk_42 (dk_at dksX1_crooked_2 14 rfl rfl)
theorem dX1_crooked_63 : decode cX1_crooked 63 = .ok (.iload 7, 2) := dk_21 7 (dk_at dksX1_crooked_2 15 rfl rfl)
theorem dX1_crooked_65 : decode cX1_crooked 65 = .ok (.iconst 0, 1) := dk_3 (dk_at dksX1_crooked_2 17 rfl rfl)
theorem dX1_crooked_66 : decode cX1_crooked 66 = .ok (.iload_n 2, 1) := dk_28 (dk_at dksX1_crooked_2 18 rfl rfl)
theorem dX1_crooked_67 : decode cX1_crooked 67 = .ok (.iconst 1, 1) := dk_4 (dk_at dksX1_crooked_2 19 rfl rfl)
theorem dX1_crooked_68 : decode cX1_crooked 68 = .ok (.isub, 1) := dk_100 (dk_at dksX1_crooked_2 20 rfl rfl)
theorem dX1_crooked_69 : decode cX1_crooked 69 = .ok (.invokevirtual 125, 3) := dk_182 0 125 (dk_at dksX1_crooked_2 21 rfl rfl)
theorem dX1_crooked_72 : decode cX1_crooked 72 = .ok (.aload_n 0, 1) := dk_42 (dk_at dksX1_crooked_3 0 rfl rfl)
theorem dX1_crooked_73 : decode cX1_crooked 73 = .ok (.iload_n 3, 1) := dk_29 (dk_at dksX1_crooked_3 1 rfl rfl)
theorem dX1_crooked_74 : decode cX1_crooked 74 = .ok (.iload 7, 2) := dk_21 7 (dk_at dksX1_crooked_3 2 rfl rfl)
theorem dX1_crooked_76 : decode cX1_crooked 76 = .ok (.ishr, 1) := dk_122 (dk_at dksX1_crooked_3 4 rfl rfl)
theorem dX1_crooked_77 : decode cX1_crooked 77 = .ok (.iconst 1, 1) := dk_4 (dk_at dksX1_crooked_3 5 rfl rfl)
theorem dX1_crooked_78 : decode cX1_crooked 78 = .ok (.iand, 1) := dk_126 (dk_at dksX1_crooked_3 6 rfl rfl)
theorem dX1_crooked_79 : decode cX1_crooked 79 = .ok (.iconst 0, 1) := dk_3 (dk_at dksX1_crooked_3 7 rfl rfl)
theorem dX1_crooked_80 : decode cX1_crooked 80 = .ok (.iconst 0, 1) := dk_3 (dk_at dksX1_crooked_3 8 rfl rfl)
theorem dX1_crooked_81 : decode cX1_crooked 81 = .ok (.invokevirtual 125, 3) := dk_182 0 125 (dk_at dksX1_crooked_3 9 rfl rfl)
theorem dX1_crooked_84 : decode cX1_crooked 84 = .ok (.iload_n 3, 1) := dk_29 (dk_at dksX1_crooked_3 12 rfl rfl)
theorem dX1_crooked_85 : decode cX1_crooked 85 = .ok (.iconst 1, 1) := dk_4 (dk_at dksX1_crooked_3 13 rfl rfl)
theorem dX1_crooked_86 : decode cX1_crooked 86 = .ok (.iload 7, 2) := dk_21 7 (dk_at dksX1_crooked_3 14 rfl rfl)
theorem dX1_crooked_88 : decode cX1_crooked 88 = .ok (.ishl, 1) := dk_120 (dk_at dksX1_crooked_3 16 rfl rfl)
theorem dX1_crooked_89 : decode cX1_crooked 89 = .ok (.ior, 1) := dk_128 (dk_at dksX1_crooked_3 17 rfl rfl)
theorem dX1_crooked_90 : decode cX1_crooked 90 = .ok (.istore_n 3, 1) := dk_62 (dk_at dksX1_crooked_3 18 rfl rfl)
theorem dX1_crooked_91 : decode cX1_crooked 91 = .ok (.iload 5, 2) := dk_21 5 (dk_at dksX1_crooked_3 19 rfl rfl)
theorem dX1_crooked_93 : decode cX1_crooked 93 = .ok (.iconst (-1), 1) := dk_2 (dk_at dksX1_crooked_3 21 rfl rfl)
theorem dX1_crooked_94 : decode cX1_crooked 94 = .ok (.if_icmp .eq 16, 3) := dk_159 0 16 (dk_at dksX1_crooked_4 0 rfl rfl)
theorem dX1_crooked_97 : decode cX1_crooked 97 = .ok (.iload 4, 2) := dk_21 4 (dk_at dksX1_crooked_4 3 rfl rfl)
theorem dX1_crooked_99 : decode cX1_crooked 99 = .ok (.iload_n 2, 1) := dk_28 (dk_at dksX1_crooked_4 5 rfl rfl)
theorem dX1_crooked_100 : decode cX1_crooked 100 = .ok (.iload 5, 2) := dk_21 5 (dk_at dksX1_crooked_4 6 rfl rfl)
theorem dX1_crooked_102 : decode cX1_crooked 102 = .ok (.iload 7, 2) := dk_21 7 (dk_at dksX1_crooked_4 8 rfl rfl)
theorem dX1_crooked_104 : decode cX1_crooked 104 = .ok (.invokestatic 384, 3) := dk_184 1 128 (dk_at dksX1_crooked_4 10 rfl rfl)
theorem dX1_crooked_107 : decode cX1_crooked 107 = .ok (.iadd, 1) := dk_96 (dk_at dksX1_crooked_4 13 rfl rfl)
theorem dX1_crooked_108 : decode cX1_crooked 108 = .ok (.istore 4, 2) := dk_54 4 (dk_at dksX1_crooked_4 14 rfl rfl)
theorem dX1_crooked_110 : decode cX1_crooked 110 = .ok (.iload 7, 2) := dk_21 7 (dk_at dksX1_crooked_4 16 rfl rfl)
theorem dX1_crooked_112 : decode cX1_crooked 112 = .ok (.istore 5, 2) := dk_54 5 (dk_at dksX1_crooked_4 18 rfl rfl)
theorem dX1_crooked_114 : decode cX1_crooked 114 = .ok (.iload 6, 2) := dk_21 6 (dk_at dksX1_crooked_4 20 rfl rfl)
theorem dX1_crooked_116 : decode cX1_crooked 116 = .ok (.bipush 10, 2) := dk_16 10 (dk_at dksX1_crooked_4 22 rfl rfl)
theorem dX1_crooked_118 : decode cX1_crooked 118 = .ok (.idiv, 1) := dk_108 (dk_at dksX1_crooked_5 0 rfl rfl)
theorem dX1_crooked_119 : decode cX1_crooked 119 = .ok (.istore 6, 2) := dk_54 6 (dk_at dksX1_crooked_5 1 rfl rfl)
theorem dX1_crooked_121 : decode cX1_crooked 121 = .ok (.goto (-73), 3) := dk_167 255 183 (dk_at dksX1_crooked_5 3 rfl rfl)
theorem dX1_crooked_124 : decode cX1_crooked 124 = .ok (.iload 4, 2) := dk_21 4 (dk_at dksX1_crooked_5 6 rfl rfl)
theorem dX1_crooked_126 : decode cX1_crooked 126 = .ok (.ireturn, 1) := dk_172 (dk_at dksX1_crooked_5 8 rfl rfl)
abbrev cX1_share : ByteArray := prog_1_method_52_code
def yX1_share : MethodName := ⟨RX1, "share", "(I)I"⟩
def dkwX1_share_0 : List UInt8 := [42, 27, 3, 16, 12, 182, 0, 125, 16, 16, 27, 100, 7, 108, 172]
abbrev dktX1_share_0 : List UInt8 := dkwX1_share_0 ++ []
theorem dksX1_share_0 : cX1_share.data.toList.drop 0 = dktX1_share_0 := by decide +kernel
theorem dX1_share_0 : decode cX1_share 0 = .ok (.aload_n 0, 1) := dk_42 (dk_at dksX1_share_0 0 rfl rfl)
theorem dX1_share_1 : decode cX1_share 1 = .ok (.iload_n 1, 1) := dk_27 (dk_at dksX1_share_0 1 rfl rfl)
theorem dX1_share_2 : decode cX1_share 2 = .ok (.iconst 0, 1) := dk_3 (dk_at dksX1_share_0 2 rfl rfl)
theorem dX1_share_3 : decode cX1_share 3 = .ok (.bipush 12, 2) := dk_16 12 (dk_at dksX1_share_0 3 rfl rfl)
theorem dX1_share_5 : decode cX1_share 5 = .ok (.invokevirtual 125, 3) := dk_182 0 125 (dk_at dksX1_share_0 5 rfl rfl)
theorem dX1_share_8 : decode cX1_share 8 = .ok (.bipush 16, 2) := dk_16 16 (dk_at dksX1_share_0 8 rfl rfl)
theorem dX1_share_10 : decode cX1_share 10 = .ok (.iload_n 1, 1) := dk_27 (dk_at dksX1_share_0 10 rfl rfl)
theorem dX1_share_11 : decode cX1_share 11 = .ok (.isub, 1) := dk_100 (dk_at dksX1_share_0 11 rfl rfl)
theorem dX1_share_12 : decode cX1_share 12 = .ok (.iconst 4, 1) := dk_7 (dk_at dksX1_share_0 12 rfl rfl)
theorem dX1_share_13 : decode cX1_share 13 = .ok (.idiv, 1) := dk_108 (dk_at dksX1_share_0 13 rfl rfl)
theorem dX1_share_14 : decode cX1_share 14 = .ok (.ireturn, 1) := dk_172 (dk_at dksX1_share_0 14 rfl rfl)
abbrev cX1_drive : ByteArray := prog_1_method_53_code
def yX1_drive : MethodName := ⟨RX1, "drive", "(I)I"⟩
def dkwX1_drive_1 : List UInt8 := [180, 0, 72, 180, 1, 137, 42, 180, 0, 79, 180, 1, 138, 46, 172]
abbrev dktX1_drive_1 : List UInt8 := dkwX1_drive_1 ++ []
def dkwX1_drive_0 : List UInt8 := [42, 27, 4, 16, 30, 182, 0, 125, 42, 180, 0, 72, 27, 42, 180, 0, 79, 180, 1, 131, 182, 1, 134, 42]
abbrev dktX1_drive_0 : List UInt8 := dkwX1_drive_0 ++ dktX1_drive_1
theorem dksX1_drive_0 : cX1_drive.data.toList.drop 0 = dktX1_drive_0 := by decide +kernel
theorem dksX1_drive_1 : cX1_drive.data.toList.drop 24 = dktX1_drive_1 := dk_seg dksX1_drive_0 24 rfl rfl
theorem dX1_drive_0 : decode cX1_drive 0 = .ok (.aload_n 0, 1) := dk_42 (dk_at dksX1_drive_0 0 rfl rfl)
theorem dX1_drive_1 : decode cX1_drive 1 = .ok (.iload_n 1, 1) := dk_27 (dk_at dksX1_drive_0 1 rfl rfl)
theorem dX1_drive_2 : decode cX1_drive 2 = .ok (.iconst 1, 1) := dk_4 (dk_at dksX1_drive_0 2 rfl rfl)
theorem dX1_drive_3 : decode cX1_drive 3 = .ok (.bipush 30, 2) := dk_16 30 (dk_at dksX1_drive_0 3 rfl rfl)
theorem dX1_drive_5 : decode cX1_drive 5 = .ok (.invokevirtual 125, 3) := dk_182 0 125 (dk_at dksX1_drive_0 5 rfl rfl)
theorem dX1_drive_8 : decode cX1_drive 8 = .ok (.aload_n 0, 1) := dk_42 (dk_at dksX1_drive_0 8 rfl rfl)
theorem dX1_drive_9 : decode cX1_drive 9 = .ok (.getfield 72, 3) := dk_180 0 72 (dk_at dksX1_drive_0 9 rfl rfl)
theorem dX1_drive_12 : decode cX1_drive 12 = .ok (.iload_n 1, 1) := dk_27 (dk_at dksX1_drive_0 12 rfl rfl)
theorem dX1_drive_13 : decode cX1_drive 13 = .ok (.aload_n 0, 1) := dk_42 (dk_at dksX1_drive_0 13 rfl rfl)
theorem dX1_drive_14 : decode cX1_drive 14 = .ok (.getfield 79, 3) := dk_180 0 79 (dk_at dksX1_drive_0 14 rfl rfl)
theorem dX1_drive_17 : decode cX1_drive 17 = .ok (.getfield 387, 3) := dk_180 1 131 (dk_at dksX1_drive_0 17 rfl rfl)
theorem dX1_drive_20 : decode cX1_drive 20 = .ok (.invokevirtual 390, 3) := dk_182 1 134 (dk_at dksX1_drive_0 20 rfl rfl)
theorem dX1_drive_23 : decode cX1_drive 23 = .ok (.aload_n 0, 1) := dk_42 (dk_at dksX1_drive_0 23 rfl rfl)
theorem dX1_drive_24 : decode cX1_drive 24 = .ok (.getfield 72, 3) := dk_180 0 72 (dk_at dksX1_drive_1 0 rfl rfl)
theorem dX1_drive_27 : decode cX1_drive 27 = .ok (.getfield 393, 3) := dk_180 1 137 (dk_at dksX1_drive_1 3 rfl rfl)
theorem dX1_drive_30 : decode cX1_drive 30 = .ok (.aload_n 0, 1) := dk_42 (dk_at dksX1_drive_1 6 rfl rfl)
theorem dX1_drive_31 : decode cX1_drive 31 = .ok (.getfield 79, 3) := dk_180 0 79 (dk_at dksX1_drive_1 7 rfl rfl)
theorem dX1_drive_34 : decode cX1_drive 34 = .ok (.getfield 394, 3) := dk_180 1 138 (dk_at dksX1_drive_1 10 rfl rfl)
theorem dX1_drive_37 : decode cX1_drive 37 = .ok (.iaload, 1) := dk_46 (dk_at dksX1_drive_1 13 rfl rfl)
theorem dX1_drive_38 : decode cX1_drive 38 = .ok (.ireturn, 1) := dk_172 (dk_at dksX1_drive_1 14 rfl rfl)
abbrev cX1_pumps : ByteArray := prog_1_method_54_code
def yX1_pumps : MethodName := ⟨RX1, "pumps", "(I)I"⟩
def dkwX1_pumps_1 : List UInt8 := [180, 0, 72, 180, 1, 141, 42, 180, 0, 79, 180, 1, 138, 46, 172]
abbrev dktX1_pumps_1 : List UInt8 := dkwX1_pumps_1 ++ []
def dkwX1_pumps_0 : List UInt8 := [42, 27, 4, 16, 30, 182, 0, 125, 42, 180, 0, 72, 27, 42, 180, 0, 79, 180, 1, 131, 182, 1, 134, 42]
abbrev dktX1_pumps_0 : List UInt8 := dkwX1_pumps_0 ++ dktX1_pumps_1
theorem dksX1_pumps_0 : cX1_pumps.data.toList.drop 0 = dktX1_pumps_0 := by decide +kernel
theorem dksX1_pumps_1 : cX1_pumps.data.toList.drop 24 = dktX1_pumps_1 := dk_seg dksX1_pumps_0 24 rfl rfl
theorem dX1_pumps_0 : decode cX1_pumps 0 = .ok (.aload_n 0, 1) := dk_42 (dk_at dksX1_pumps_0 0 rfl rfl)
theorem dX1_pumps_1 : decode cX1_pumps 1 = .ok (.iload_n 1, 1) := dk_27 (dk_at dksX1_pumps_0 1 rfl rfl)
theorem dX1_pumps_2 : decode cX1_pumps 2 = .ok (.iconst 1, 1) := dk_4 (dk_at dksX1_pumps_0 2 rfl rfl)
theorem dX1_pumps_3 : decode cX1_pumps 3 = .ok (.bipush 30, 2) := dk_16 30 (dk_at dksX1_pumps_0 3 rfl rfl)
theorem dX1_pumps_5 : decode cX1_pumps 5 = .ok (.invokevirtual 125, 3) := dk_182 0 125 (dk_at dksX1_pumps_0 5 rfl rfl)
theorem dX1_pumps_8 : decode cX1_pumps 8 = .ok (.aload_n 0, 1) := dk_42 (dk_at dksX1_pumps_0 8 rfl rfl)
theorem dX1_pumps_9 : decode cX1_pumps 9 = .ok (.getfield 72, 3) := dk_180 0 72 (dk_at dksX1_pumps_0 9 rfl rfl)
theorem dX1_pumps_12 : decode cX1_pumps 12 = .ok (.iload_n 1, 1) := dk_27 (dk_at dksX1_pumps_0 12 rfl rfl)
theorem dX1_pumps_13 : decode cX1_pumps 13 = .ok (.aload_n 0, 1) := dk_42 (dk_at dksX1_pumps_0 13 rfl rfl)
theorem dX1_pumps_14 : decode cX1_pumps 14 = .ok (.getfield 79, 3) := dk_180 0 79 (dk_at dksX1_pumps_0 14 rfl rfl)
theorem dX1_pumps_17 : decode cX1_pumps 17 = .ok (.getfield 387, 3) := dk_180 1 131 (dk_at dksX1_pumps_0 17 rfl rfl)
theorem dX1_pumps_20 : decode cX1_pumps 20 = .ok (.invokevirtual 390, 3) := dk_182 1 134 (dk_at dksX1_pumps_0 20 rfl rfl)
theorem dX1_pumps_23 : decode cX1_pumps 23 = .ok (.aload_n 0, 1) := dk_42 (dk_at dksX1_pumps_0 23 rfl rfl)
theorem dX1_pumps_24 : decode cX1_pumps 24 = .ok (.getfield 72, 3) := dk_180 0 72 (dk_at dksX1_pumps_1 0 rfl rfl)
theorem dX1_pumps_27 : decode cX1_pumps 27 = .ok (.getfield 397, 3) := dk_180 1 141 (dk_at dksX1_pumps_1 3 rfl rfl)
theorem dX1_pumps_30 : decode cX1_pumps 30 = .ok (.aload_n 0, 1) := dk_42 (dk_at dksX1_pumps_1 6 rfl rfl)
theorem dX1_pumps_31 : decode cX1_pumps 31 = .ok (.getfield 79, 3) := dk_180 0 79 (dk_at dksX1_pumps_1 7 rfl rfl)
theorem dX1_pumps_34 : decode cX1_pumps 34 = .ok (.getfield 394, 3) := dk_180 1 138 (dk_at dksX1_pumps_1 10 rfl rfl)
theorem dX1_pumps_37 : decode cX1_pumps 37 = .ok (.iaload, 1) := dk_46 (dk_at dksX1_pumps_1 13 rfl rfl)
theorem dX1_pumps_38 : decode cX1_pumps 38 = .ok (.ireturn, 1) := dk_172 (dk_at dksX1_pumps_1 14 rfl rfl)
abbrev cX1_odds : ByteArray := prog_1_method_56_code
def yX1_odds : MethodName := ⟨RX1, "odds", "(II)J"⟩
def dkwX1_odds_3 : List UInt8 := [133, 28, 184, 1, 107, 173]
abbrev dktX1_odds_3 : List UInt8 := dkwX1_odds_3 ++ []
def dkwX1_odds_2 : List UInt8 := [132, 4, 1, 167, 255, 230, 29, 154, 0, 8, 28, 133, 167, 0, 17, 42, 27, 2, 2, 182, 1, 151, 133, 29]
abbrev dktX1_odds_2 : List UInt8 := dkwX1_odds_2 ++ dktX1_odds_3
def dkwX1_odds_1 : List UInt8 := [21, 4, 42, 180, 0, 79, 180, 0, 203, 162, 0, 20, 29, 42, 21, 4, 2, 2, 182, 1, 151, 96, 62]
abbrev dktX1_odds_1 : List UInt8 := dkwX1_odds_1 ++ dktX1_odds_2
def dkwX1_odds_0 : List UInt8 := [42, 27, 42, 180, 0, 79, 180, 0, 203, 182, 0, 93, 42, 28, 3, 4, 182, 0, 125, 3, 62, 3, 54, 4]
abbrev dktX1_odds_0 : List UInt8 := dkwX1_odds_0 ++ dktX1_odds_1
theorem dksX1_odds_0 : cX1_odds.data.toList.drop 0 = dktX1_odds_0 := by decide +kernel
theorem dksX1_odds_1 : cX1_odds.data.toList.drop 24 = dktX1_odds_1 := dk_seg dksX1_odds_0 24 rfl rfl
theorem dksX1_odds_2 : cX1_odds.data.toList.drop 47 = dktX1_odds_2 := dk_seg dksX1_odds_1 23 rfl rfl
theorem dksX1_odds_3 : cX1_odds.data.toList.drop 71 = dktX1_odds_3 := dk_seg dksX1_odds_2 24 rfl rfl
theorem dX1_odds_0 : decode cX1_odds 0 = .ok (.aload_n 0, 1) := dk_42 (dk_at dksX1_odds_0 0 rfl rfl)
theorem dX1_odds_1 : decode cX1_odds 1 = .ok (.iload_n 1, 1) := dk_27 (dk_at dksX1_odds_0 1 rfl rfl)
theorem dX1_odds_2 : decode cX1_odds 2 = .ok (.aload_n 0, 1) := dk_42 (dk_at dksX1_odds_0 2 rfl rfl)
theorem dX1_odds_3 : decode cX1_odds 3 = .ok (.getfield 79, 3) := dk_180 0 79 (dk_at dksX1_odds_0 3 rfl rfl)
theorem dX1_odds_6 : decode cX1_odds 6 = .ok (.getfield 203, 3) := dk_180 0 203 (dk_at dksX1_odds_0 6 rfl rfl)
theorem dX1_odds_9 : decode cX1_odds 9 = .ok (.invokevirtual 93, 3) := dk_182 0 93 (dk_at dksX1_odds_0 9 rfl rfl)
theorem dX1_odds_12 : decode cX1_odds 12 = .ok (.aload_n 0, 1) := dk_42 (dk_at dksX1_odds_0 12 rfl rfl)
theorem dX1_odds_13 : decode cX1_odds 13 = .ok (.iload_n 2, 1) := dk_28 (dk_at dksX1_odds_0 13 rfl rfl)
theorem dX1_odds_14 : decode cX1_odds 14 = .ok (.iconst 0, 1) := dk_3 (dk_at dksX1_odds_0 14 rfl rfl)
theorem dX1_odds_15 : decode cX1_odds 15 = .ok (.iconst 1, 1) := dk_4 (dk_at dksX1_odds_0 15 rfl rfl)
theorem dX1_odds_16 : decode cX1_odds 16 = .ok (.invokevirtual 125, 3) := dk_182 0 125 (dk_at dksX1_odds_0 16 rfl rfl)
theorem dX1_odds_19 : decode cX1_odds 19 = .ok (.iconst 0, 1) := dk_3 (dk_at dksX1_odds_0 19 rfl rfl)
theorem dX1_odds_20 : decode cX1_odds 20 = .ok (.istore_n 3, 1) := dk_62 (dk_at dksX1_odds_0 20 rfl rfl)
theorem dX1_odds_21 : decode cX1_odds 21 = .ok (.iconst 0, 1) := dk_3 (dk_at dksX1_odds_0 21 rfl rfl)
theorem dX1_odds_22 : decode cX1_odds 22 = .ok (.istore 4, 2) := dk_54 4 (dk_at dksX1_odds_0 22 rfl rfl)
theorem dX1_odds_24 : decode cX1_odds 24 = .ok (.iload 4, 2) := dk_21 4 (dk_at dksX1_odds_1 0 rfl rfl)
theorem dX1_odds_26 : decode cX1_odds 26 = .ok (.aload_n 0, 1) := dk_42 (dk_at dksX1_odds_1 2 rfl rfl)
theorem dX1_odds_27 : decode cX1_odds 27 = .ok (.getfield 79, 3) := dk_180 0 79 (dk_at dksX1_odds_1 3 rfl rfl)
theorem dX1_odds_30 : decode cX1_odds 30 = .ok (.getfield 203, 3) := dk_180 0 203 (dk_at dksX1_odds_1 6 rfl rfl)
theorem dX1_odds_33 : decode cX1_odds 33 = .ok (.if_icmp .ge 20, 3) := dk_162 0 20 (dk_at dksX1_odds_1 9 rfl rfl)
theorem dX1_odds_36 : decode cX1_odds 36 = .ok (.iload_n 3, 1) := dk_29 (dk_at dksX1_odds_1 12 rfl rfl)
theorem dX1_odds_37 : decode cX1_odds 37 = .ok (.aload_n 0, 1) := dk_42 (dk_at dksX1_odds_1 13 rfl rfl)
theorem dX1_odds_38 : decode cX1_odds 38 = .ok (.iload 4, 2) := dk_21 4 (dk_at dksX1_odds_1 14 rfl rfl)
theorem dX1_odds_40 : decode cX1_odds 40 = .ok (.iconst (-1), 1) := dk_2 (dk_at dksX1_odds_1 16 rfl rfl)
theorem dX1_odds_41 : decode cX1_odds 41 = .ok (.iconst (-1), 1) := dk_2 (dk_at dksX1_odds_1 17 rfl rfl)
theorem dX1_odds_42 : decode cX1_odds 42 = .ok (.invokevirtual 407, 3) := dk_182 1 151 (dk_at dksX1_odds_1 18 rfl rfl)
theorem dX1_odds_45 : decode cX1_odds 45 = .ok (.iadd, 1) := dk_96 (dk_at dksX1_odds_1 21 rfl rfl)
theorem dX1_odds_46 : decode cX1_odds 46 = .ok (.istore_n 3, 1) := dk_62 (dk_at dksX1_odds_1 22 rfl rfl)
theorem dX1_odds_47 : decode cX1_odds 47 = .ok (.iinc 4 1, 3) := dk_132 4 1 (dk_at dksX1_odds_2 0 rfl rfl)
theorem dX1_odds_50 : decode cX1_odds 50 = .ok (.goto (-26), 3) := dk_167 255 230 (dk_at dksX1_odds_2 3 rfl rfl)
theorem dX1_odds_53 : decode cX1_odds 53 = .ok (.iload_n 3, 1) := dk_29 (dk_at dksX1_odds_2 6 rfl rfl)
theorem dX1_odds_54 : decode cX1_odds 54 = .ok (.ifCond .ne 8, 3) := dk_154 0 8 (dk_at dksX1_odds_2 7 rfl rfl)
theorem dX1_odds_57 : decode cX1_odds 57 = .ok (.iload_n 2, 1) := dk_28 (dk_at dksX1_odds_2 10 rfl rfl)
theorem dX1_odds_58 : decode cX1_odds 58 = .ok (.i2l, 1) := dk_133 (dk_at dksX1_odds_2 11 rfl rfl)
theorem dX1_odds_59 : decode cX1_odds 59 = .ok (.goto 17, 3) := dk_167 0 17 (dk_at dksX1_odds_2 12 rfl rfl)
theorem dX1_odds_62 : decode cX1_odds 62 = .ok (.aload_n 0, 1) := dk_42 (dk_at dksX1_odds_2 15 rfl rfl)
theorem dX1_odds_63 : decode cX1_odds 63 = .ok (.iload_n 1, 1) := dk_27 (dk_at dksX1_odds_2 16 rfl rfl)
theorem dX1_odds_64 : decode cX1_odds 64 = .ok (.iconst (-1), 1) := dk_2 (dk_at dksX1_odds_2 17 rfl rfl)
theorem dX1_odds_65 : decode cX1_odds 65 = .ok (.iconst (-1), 1) := dk_2 (dk_at dksX1_odds_2 18 rfl rfl)
theorem dX1_odds_66 : decode cX1_odds 66 = .ok (.invokevirtual 407, 3) := dk_182 1 151 (dk_at dksX1_odds_2 19 rfl rfl)
theorem dX1_odds_69 : decode cX1_odds 69 = .ok (.i2l, 1) := dk_133 (dk_at dksX1_odds_2 22 rfl rfl)
theorem dX1_odds_70 : decode cX1_odds 70 = .ok (.iload_n 3, 1) := dk_29 (dk_at dksX1_odds_2 23 rfl rfl)
theorem dX1_odds_71 : decode cX1_odds 71 = .ok (.i2l, 1) := dk_133 (dk_at dksX1_odds_3 0 rfl rfl)
theorem dX1_odds_72 : decode cX1_odds 72 = .ok (.iload_n 2, 1) := dk_28 (dk_at dksX1_odds_3 1 rfl rfl)
theorem dX1_odds_73 : decode cX1_odds 73 = .ok (.invokestatic 363, 3) := dk_184 1 107 (dk_at dksX1_odds_3 2 rfl rfl)
theorem dX1_odds_76 : decode cX1_odds 76 = .ok (.lreturn, 1) := dk_173 (dk_at dksX1_odds_3 5 rfl rfl)
abbrev cX1_evening : ByteArray := prog_1_method_61_code
def yX1_evening : MethodName := ⟨RX1, "evening", "(II)I"⟩
def dkwX1_evening_2 : List UInt8 := [180, 1, 167, 172]
abbrev dktX1_evening_2 : List UInt8 := dkwX1_evening_2 ++ []
def dkwX1_evening_1 : List UInt8 := [167, 0, 25, 28, 4, 160, 0, 13, 42, 180, 0, 51, 182, 1, 164, 167, 0, 10, 42, 180, 0, 51]
abbrev dktX1_evening_1 : List UInt8 := dkwX1_evening_1 ++ dktX1_evening_2
def dkwX1_evening_0 : List UInt8 := [42, 28, 3, 5, 182, 0, 125, 42, 27, 182, 1, 161, 87, 28, 154, 0, 13, 42, 180, 0, 51, 180, 1, 36]
abbrev dktX1_evening_0 : List UInt8 := dkwX1_evening_0 ++ dktX1_evening_1
theorem dksX1_evening_0 : cX1_evening.data.toList.drop 0 = dktX1_evening_0 := by decide +kernel
theorem dksX1_evening_1 : cX1_evening.data.toList.drop 24 = dktX1_evening_1 := dk_seg dksX1_evening_0 24 rfl rfl
theorem dksX1_evening_2 : cX1_evening.data.toList.drop 46 = dktX1_evening_2 := dk_seg dksX1_evening_1 22 rfl rfl
theorem dX1_evening_0 : decode cX1_evening 0 = .ok (.aload_n 0, 1) := dk_42 (dk_at dksX1_evening_0 0 rfl rfl)
theorem dX1_evening_1 : decode cX1_evening 1 = .ok (.iload_n 2, 1) := dk_28 (dk_at dksX1_evening_0 1 rfl rfl)
theorem dX1_evening_2 : decode cX1_evening 2 = .ok (.iconst 0, 1) := dk_3 (dk_at dksX1_evening_0 2 rfl rfl)
theorem dX1_evening_3 : decode cX1_evening 3 = .ok (.iconst 2, 1) := dk_5 (dk_at dksX1_evening_0 3 rfl rfl)
theorem dX1_evening_4 : decode cX1_evening 4 = .ok (.invokevirtual 125, 3) := dk_182 0 125 (dk_at dksX1_evening_0 4 rfl rfl)
theorem dX1_evening_7 : decode cX1_evening 7 = .ok (.aload_n 0, 1) := dk_42 (dk_at dksX1_evening_0 7 rfl rfl)
theorem dX1_evening_8 : decode cX1_evening 8 = .ok (.iload_n 1, 1) := dk_27 (dk_at dksX1_evening_0 8 rfl rfl)
theorem dX1_evening_9 : decode cX1_evening 9 = .ok (.invokevirtual 417, 3) := dk_182 1 161 (dk_at dksX1_evening_0 9 rfl rfl)
theorem dX1_evening_12 : decode cX1_evening 12 = .ok (.pop, 1) := dk_87 (dk_at dksX1_evening_0 12 rfl rfl)
theorem dX1_evening_13 : decode cX1_evening 13 = .ok (.iload_n 2, 1) := dk_28 (dk_at dksX1_evening_0 13 rfl rfl)
theorem dX1_evening_14 : decode cX1_evening 14 = .ok (.ifCond .ne 13, 3) := dk_154 0 13 (dk_at dksX1_evening_0 14 rfl rfl)
theorem dX1_evening_17 : decode cX1_evening 17 = .ok (.aload_n 0, 1) := dk_42 (dk_at dksX1_evening_0 17 rfl rfl)
theorem dX1_evening_18 : decode cX1_evening 18 = .ok (.getfield 51, 3) := dk_180 0 51 (dk_at dksX1_evening_0 18 rfl rfl)
theorem dX1_evening_21 : decode cX1_evening 21 = .ok (.getfield 292, 3) := dk_180 1 36 (dk_at dksX1_evening_0 21 rfl rfl)
theorem dX1_evening_24 : decode cX1_evening 24 = .ok (.goto 25, 3) := dk_167 0 25 (dk_at dksX1_evening_1 0 rfl rfl)
theorem dX1_evening_27 : decode cX1_evening 27 = .ok (.iload_n 2, 1) := dk_28 (dk_at dksX1_evening_1 3 rfl rfl)
theorem dX1_evening_28 : decode cX1_evening 28 = .ok (.iconst 1, 1) := dk_4 (dk_at dksX1_evening_1 4 rfl rfl)
theorem dX1_evening_29 : decode cX1_evening 29 = .ok (.if_icmp .ne 13, 3) := dk_160 0 13 (dk_at dksX1_evening_1 5 rfl rfl)
theorem dX1_evening_32 : decode cX1_evening 32 = .ok (.aload_n 0, 1) := dk_42 (dk_at dksX1_evening_1 8 rfl rfl)
theorem dX1_evening_33 : decode cX1_evening 33 = .ok (.getfield 51, 3) := dk_180 0 51 (dk_at dksX1_evening_1 9 rfl rfl)
theorem dX1_evening_36 : decode cX1_evening 36 = .ok (.invokevirtual 420, 3) := dk_182 1 164 (dk_at dksX1_evening_1 12 rfl rfl)
theorem dX1_evening_39 : decode cX1_evening 39 = .ok (.goto 10, 3) := dk_167 0 10 (dk_at dksX1_evening_1 15 rfl rfl)
theorem dX1_evening_42 : decode cX1_evening 42 = .ok (.aload_n 0, 1) := dk_42 (dk_at dksX1_evening_1 18 rfl rfl)
theorem dX1_evening_43 : decode cX1_evening 43 = .ok (.getfield 51, 3) := dk_180 0 51 (dk_at dksX1_evening_1 19 rfl rfl)
theorem dX1_evening_46 : decode cX1_evening 46 = .ok (.getfield 423, 3) := dk_180 1 167 (dk_at dksX1_evening_2 0 rfl rfl)
theorem dX1_evening_49 : decode cX1_evening 49 = .ok (.ireturn, 1) := dk_172 (dk_at dksX1_evening_2 3 rfl rfl)
abbrev cX1_lost : ByteArray := prog_1_method_60_code
def yX1_lost : MethodName := ⟨RX1, "lost", "(I)LRainWheel$Watch;"⟩
def dkwX1_lost_0 : List UInt8 := [42, 180, 0, 51, 42, 180, 0, 79, 182, 1, 9, 27, 182, 1, 157, 42, 180, 0, 23, 182, 1, 13, 176]
abbrev dktX1_lost_0 : List UInt8 := dkwX1_lost_0 ++ []
theorem dksX1_lost_0 : cX1_lost.data.toList.drop 0 = dktX1_lost_0 := by decide +kernel
theorem dX1_lost_0 : decode cX1_lost 0 = .ok (.aload_n 0, 1) := dk_42 (dk_at dksX1_lost_0 0 rfl rfl)
theorem dX1_lost_1 : decode cX1_lost 1 = .ok (.getfield 51, 3) := dk_180 0 51 (dk_at dksX1_lost_0 1 rfl rfl)
theorem dX1_lost_4 : decode cX1_lost 4 = .ok (.aload_n 0, 1) := dk_42 (dk_at dksX1_lost_0 4 rfl rfl)
theorem dX1_lost_5 : decode cX1_lost 5 = .ok (.getfield 79, 3) := dk_180 0 79 (dk_at dksX1_lost_0 5 rfl rfl)
theorem dX1_lost_8 : decode cX1_lost 8 = .ok (.invokevirtual 265, 3) := dk_182 1 9 (dk_at dksX1_lost_0 8 rfl rfl)
theorem dX1_lost_11 : decode cX1_lost 11 = .ok (.iload_n 1, 1) := dk_27 (dk_at dksX1_lost_0 11 rfl rfl)
theorem dX1_lost_12 : decode cX1_lost 12 = .ok (.invokevirtual 413, 3) := dk_182 1 157 (dk_at dksX1_lost_0 12 rfl rfl)
theorem dX1_lost_15 : decode cX1_lost 15 = .ok (.aload_n 0, 1) := dk_42 (dk_at dksX1_lost_0 15 rfl rfl)
theorem dX1_lost_16 : decode cX1_lost 16 = .ok (.getfield 23, 3) := dk_180 0 23 (dk_at dksX1_lost_0 16 rfl rfl)
theorem dX1_lost_19 : decode cX1_lost 19 = .ok (.invokevirtual 269, 3) := dk_182 1 13 (dk_at dksX1_lost_0 19 rfl rfl)
theorem dX1_lost_22 : decode cX1_lost 22 = .ok (.areturn, 1) := dk_176 (dk_at dksX1_lost_0 22 rfl rfl)
abbrev cX1_evenings : ByteArray := prog_1_method_62_code
def yX1_evenings : MethodName := ⟨RX1, "evenings", "(III)I"⟩
def dkwX1_evenings_5 : List UInt8 := [21, 5, 167, 0, 15, 29, 5, 160, 0, 8, 21, 6, 167, 0, 5, 21, 7, 172]
abbrev dktX1_evenings_5 : List UInt8 := dkwX1_evenings_5 ++ []
def dkwX1_evenings_4 : List UInt8 := [132, 7, 1, 132, 8, 1, 167, 255, 186, 29, 154, 0, 8, 21, 4, 167, 0, 25, 29, 4, 160, 0, 8]
abbrev dktX1_evenings_4 : List UInt8 := dkwX1_evenings_4 ++ dktX1_evenings_5
def dkwX1_evenings_3 : List UInt8 := [21, 9, 184, 1, 95, 54, 5, 21, 6, 21, 9, 96, 54, 6, 42, 180, 0, 51, 180, 1, 167, 154, 0, 6]
abbrev dktX1_evenings_3 : List UInt8 := dkwX1_evenings_3 ++ dktX1_evenings_4
def dkwX1_evenings_2 : List UInt8 := [54, 9, 21, 8, 154, 0, 8, 21, 9, 167, 0, 10, 21, 4, 21, 9, 184, 0, 157, 54, 4, 21, 5]
abbrev dktX1_evenings_2 : List UInt8 := dkwX1_evenings_2 ++ dktX1_evenings_3
def dkwX1_evenings_1 : List UInt8 := [3, 54, 7, 3, 54, 8, 21, 8, 28, 162, 0, 70, 42, 27, 21, 8, 96, 182, 1, 161, 180, 1, 36]
abbrev dktX1_evenings_1 : List UInt8 := dkwX1_evenings_1 ++ dktX1_evenings_2
def dkwX1_evenings_0 : List UInt8 := [42, 28, 4, 16, 40, 182, 0, 125, 42, 29, 3, 6, 182, 0, 125, 3, 54, 4, 3, 54, 5, 3, 54, 6]
abbrev dktX1_evenings_0 : List UInt8 := dkwX1_evenings_0 ++ dktX1_evenings_1
theorem dksX1_evenings_0 : cX1_evenings.data.toList.drop 0 = dktX1_evenings_0 := by decide +kernel
theorem dksX1_evenings_1 : cX1_evenings.data.toList.drop 24 = dktX1_evenings_1 := dk_seg dksX1_evenings_0 24 rfl rfl
theorem dksX1_evenings_2 : cX1_evenings.data.toList.drop 47 = dktX1_evenings_2 := dk_seg dksX1_evenings_1 23 rfl rfl
theorem dksX1_evenings_3 : cX1_evenings.data.toList.drop 70 = dktX1_evenings_3 := dk_seg dksX1_evenings_2 23 rfl rfl
theorem dksX1_evenings_4 : cX1_evenings.data.toList.drop 94 = dktX1_evenings_4 := dk_seg dksX1_evenings_3 24 rfl rfl
theorem dksX1_evenings_5 : cX1_evenings.data.toList.drop 117 = dktX1_evenings_5 := dk_seg dksX1_evenings_4 23 rfl rfl
theorem dX1_evenings_0 : decode cX1_evenings 0 = .ok (.aload_n 0, 1) := dk_42 (dk_at dksX1_evenings_0 0 rfl rfl)
theorem dX1_evenings_1 : decode cX1_evenings 1 = .ok (.iload_n 2, 1) := dk_28 (dk_at dksX1_evenings_0 1 rfl rfl)
theorem dX1_evenings_2 : decode cX1_evenings 2 = .ok (.iconst 1, 1) := dk_4 (dk_at dksX1_evenings_0 2 rfl rfl)
theorem dX1_evenings_3 : decode cX1_evenings 3 = .ok (.bipush 40, 2) := dk_16 40 (dk_at dksX1_evenings_0 3 rfl rfl)
theorem dX1_evenings_5 : decode cX1_evenings 5 = .ok (.invokevirtual 125, 3) := dk_182 0 125 (dk_at dksX1_evenings_0 5 rfl rfl)
theorem dX1_evenings_8 : decode cX1_evenings 8 = .ok (.aload_n 0, 1) := dk_42 (dk_at dksX1_evenings_0 8 rfl rfl)
theorem dX1_evenings_9 : decode cX1_evenings 9 = .ok (.iload_n 3, 1) := dk_29 (dk_at dksX1_evenings_0 9 rfl rfl)
theorem dX1_evenings_10 : decode cX1_evenings 10 = .ok (.iconst 0, 1) := dk_3 (dk_at dksX1_evenings_0 10 rfl rfl)
theorem dX1_evenings_11 : decode cX1_evenings 11 = .ok (.iconst 3, 1) := dk_6 (dk_at dksX1_evenings_0 11 rfl rfl)
theorem dX1_evenings_12 : decode cX1_evenings 12 = .ok (.invokevirtual 125, 3) := dk_182 0 125 (dk_at dksX1_evenings_0 12 rfl rfl)
theorem dX1_evenings_15 : decode cX1_evenings 15 = .ok (.iconst 0, 1) := dk_3 (dk_at dksX1_evenings_0 15 rfl rfl)
theorem dX1_evenings_16 : decode cX1_evenings 16 = .ok (.istore 4, 2) := dk_54 4 (dk_at dksX1_evenings_0 16 rfl rfl)
theorem dX1_evenings_18 : decode cX1_evenings 18 = .ok (.iconst 0, 1) := dk_3 (dk_at dksX1_evenings_0 18 rfl rfl)
theorem dX1_evenings_19 : decode cX1_evenings 19 = .ok (.istore 5, 2) := dk_54 5 (dk_at dksX1_evenings_0 19 rfl rfl)
theorem dX1_evenings_21 : decode cX1_evenings 21 = .ok (.iconst 0, 1) := dk_3 (dk_at dksX1_evenings_0 21 rfl rfl)
theorem dX1_evenings_22 : decode cX1_evenings 22 = .ok (.istore 6, 2) := dk_54 6 (dk_at dksX1_evenings_0 22 rfl rfl)
theorem dX1_evenings_24 : decode cX1_evenings 24 = .ok (.iconst 0, 1) := dk_3 (dk_at dksX1_evenings_1 0 rfl rfl)
theorem dX1_evenings_25 : decode cX1_evenings 25 = .ok (.istore 7, 2) := dk_54 7 (dk_at dksX1_evenings_1 1 rfl rfl)
theorem dX1_evenings_27 : decode cX1_evenings 27 = .ok (.iconst 0, 1) := dk_3 (dk_at dksX1_evenings_1 3 rfl rfl)
theorem dX1_evenings_28 : decode cX1_evenings 28 = .ok (.istore 8, 2) := dk_54 8 (dk_at dksX1_evenings_1 4 rfl rfl)
theorem dX1_evenings_30 : decode cX1_evenings 30 = .ok (.iload 8, 2) := dk_21 8 (dk_at dksX1_evenings_1 6 rfl rfl)
theorem dX1_evenings_32 : decode cX1_evenings 32 = .ok (.iload_n 2, 1) := dk_28 (dk_at dksX1_evenings_1 8 rfl rfl)
theorem dX1_evenings_33 : decode cX1_evenings 33 = .ok (.if_icmp .ge 70, 3) := dk_162 0 70 (dk_at dksX1_evenings_1 9 rfl rfl)
theorem dX1_evenings_36 : decode cX1_evenings 36 = .ok (.aload_n 0, 1) := dk_42 (dk_at dksX1_evenings_1 12 rfl rfl)
theorem dX1_evenings_37 : decode cX1_evenings 37 = .ok (.iload_n 1, 1) := dk_27 (dk_at dksX1_evenings_1 13 rfl rfl)
theorem dX1_evenings_38 : decode cX1_evenings 38 = .ok (.iload 8, 2) := dk_21 8 (dk_at dksX1_evenings_1 14 rfl rfl)
theorem dX1_evenings_40 : decode cX1_evenings 40 = .ok (.iadd, 1) := dk_96 (dk_at dksX1_evenings_1 16 rfl rfl)
theorem dX1_evenings_41 : decode cX1_evenings 41 = .ok (.invokevirtual 417, 3) := dk_182 1 161 (dk_at dksX1_evenings_1 17 rfl rfl)
theorem dX1_evenings_44 : decode cX1_evenings 44 = .ok (.getfield 292, 3) := dk_180 1 36 (dk_at dksX1_evenings_1 20 rfl rfl)
theorem dX1_evenings_47 : decode cX1_evenings 47 = .ok (.istore 9, 2) := dk_54 9 (dk_at dksX1_evenings_2 0 rfl rfl)
theorem dX1_evenings_49 : decode cX1_evenings 49 = .ok (.iload 8, 2) := dk_21 8 (dk_at dksX1_evenings_2 2 rfl rfl)
theorem dX1_evenings_51 : decode cX1_evenings 51 = .ok (.ifCond .ne 8, 3) := dk_154 0 8 (dk_at dksX1_evenings_2 4 rfl rfl)
theorem dX1_evenings_54 : decode cX1_evenings 54 = .ok (.iload 9, 2) := dk_21 9 (dk_at dksX1_evenings_2 7 rfl rfl)
theorem dX1_evenings_56 : decode cX1_evenings 56 = .ok (.goto 10, 3) := dk_167 0 10 (dk_at dksX1_evenings_2 9 rfl rfl)
theorem dX1_evenings_59 : decode cX1_evenings 59 = .ok (.iload 4, 2) := dk_21 4 (dk_at dksX1_evenings_2 12 rfl rfl)
theorem dX1_evenings_61 : decode cX1_evenings 61 = .ok (.iload 9, 2) := dk_21 9 (dk_at dksX1_evenings_2 14 rfl rfl)
theorem dX1_evenings_63 : decode cX1_evenings 63 = .ok (.invokestatic 157, 3) := dk_184 0 157 (dk_at dksX1_evenings_2 16 rfl rfl)
theorem dX1_evenings_66 : decode cX1_evenings 66 = .ok (.istore 4, 2) := dk_54 4 (dk_at dksX1_evenings_2 19 rfl rfl)
theorem dX1_evenings_68 : decode cX1_evenings 68 = .ok (.iload 5, 2) := dk_21 5 (dk_at dksX1_evenings_2 21 rfl rfl)
theorem dX1_evenings_70 : decode cX1_evenings 70 = .ok (.iload 9, 2) := dk_21 9 (dk_at dksX1_evenings_3 0 rfl rfl)
theorem dX1_evenings_72 : decode cX1_evenings 72 = .ok (.invokestatic 351, 3) := dk_184 1 95 (dk_at dksX1_evenings_3 2 rfl rfl)
theorem dX1_evenings_75 : decode cX1_evenings 75 = .ok (.istore 5, 2) := dk_54 5 (dk_at dksX1_evenings_3 5 rfl rfl)
theorem dX1_evenings_77 : decode cX1_evenings 77 = .ok (.iload 6, 2) := dk_21 6 (dk_at dksX1_evenings_3 7 rfl rfl)
theorem dX1_evenings_79 : decode cX1_evenings 79 = .ok (.iload 9, 2) := dk_21 9 (dk_at dksX1_evenings_3 9 rfl rfl)
theorem dX1_evenings_81 : decode cX1_evenings 81 = .ok (.iadd, 1) := dk_96 (dk_at dksX1_evenings_3 11 rfl rfl)
theorem dX1_evenings_82 : decode cX1_evenings 82 = .ok (.istore 6, 2) := dk_54 6 (dk_at dksX1_evenings_3 12 rfl rfl)
theorem dX1_evenings_84 : decode cX1_evenings 84 = .ok (.aload_n 0, 1) := dk_42 (dk_at dksX1_evenings_3 14 rfl rfl)
theorem dX1_evenings_85 : decode cX1_evenings 85 = .ok (.getfield 51, 3) := dk_180 0 51 (dk_at dksX1_evenings_3 15 rfl rfl)
theorem dX1_evenings_88 : decode cX1_evenings 88 = .ok (.getfield 423, 3) := dk_180 1 167 (dk_at dksX1_evenings_3 18 rfl rfl)
theorem dX1_evenings_91 : decode cX1_evenings 91 = .ok (.ifCond .ne 6, 3) := dk_154 0 6 (dk_at dksX1_evenings_3 21 rfl rfl)
theorem dX1_evenings_94 : decode cX1_evenings 94 = .ok (.iinc 7 1, 3) := dk_132 7 1 (dk_at dksX1_evenings_4 0 rfl rfl)
theorem dX1_evenings_97 : decode cX1_evenings 97 = .ok (.iinc 8 1, 3) := dk_132 8 1 (dk_at dksX1_evenings_4 3 rfl rfl)
theorem dX1_evenings_100 : decode cX1_evenings 100 = .ok (.goto (-70), 3) := dk_167 255 186 (dk_at dksX1_evenings_4 6 rfl rfl)
theorem dX1_evenings_103 : decode cX1_evenings 103 = .ok (.iload_n 3, 1) := dk_29 (dk_at dksX1_evenings_4 9 rfl rfl)
theorem dX1_evenings_104 : decode cX1_evenings 104 = .ok (.ifCond .ne 8, 3) := dk_154 0 8 (dk_at dksX1_evenings_4 10 rfl rfl)
theorem dX1_evenings_107 : decode cX1_evenings 107 = .ok (.iload 4, 2) := dk_21 4 (dk_at dksX1_evenings_4 13 rfl rfl)
theorem dX1_evenings_109 : decode cX1_evenings 109 = .ok (.goto 25, 3) := dk_167 0 25 (dk_at dksX1_evenings_4 15 rfl rfl)
theorem dX1_evenings_112 : decode cX1_evenings 112 = .ok (.iload_n 3, 1) := dk_29 (dk_at dksX1_evenings_4 18 rfl rfl)
theorem dX1_evenings_113 : decode cX1_evenings 113 = .ok (.iconst 1, 1) := dk_4 (dk_at dksX1_evenings_4 19 rfl rfl)
theorem dX1_evenings_114 : decode cX1_evenings 114 = .ok (.if_icmp .ne 8, 3) := dk_160 0 8 (dk_at dksX1_evenings_4 20 rfl rfl)
theorem dX1_evenings_117 : decode cX1_evenings 117 = .ok (.iload 5, 2) := dk_21 5 (dk_at dksX1_evenings_5 0 rfl rfl)
theorem dX1_evenings_119 : decode cX1_evenings 119 = .ok (.goto 15, 3) := dk_167 0 15 (dk_at dksX1_evenings_5 2 rfl rfl)
theorem dX1_evenings_122 : decode cX1_evenings 122 = .ok (.iload_n 3, 1) := dk_29 (dk_at dksX1_evenings_5 5 rfl rfl)
theorem dX1_evenings_123 : decode cX1_evenings 123 = .ok (.iconst 2, 1) := dk_5 (dk_at dksX1_evenings_5 6 rfl rfl)
theorem dX1_evenings_124 : decode cX1_evenings 124 = .ok (.if_icmp .ne 8, 3) := dk_160 0 8 (dk_at dksX1_evenings_5 7 rfl rfl)
theorem dX1_evenings_127 : decode cX1_evenings 127 = .ok (.iload 6, 2) := dk_21 6 (dk_at dksX1_evenings_5 10 rfl rfl)
theorem dX1_evenings_129 : decode cX1_evenings 129 = .ok (.goto 5, 3) := dk_167 0 5 (dk_at dksX1_evenings_5 12 rfl rfl)
theorem dX1_evenings_132 : decode cX1_evenings 132 = .ok (.iload 7, 2) := dk_21 7 (dk_at dksX1_evenings_5 15 rfl rfl)
theorem dX1_evenings_134 : decode cX1_evenings 134 = .ok (.ireturn, 1) := dk_172 (dk_at dksX1_evenings_5 17 rfl rfl)
abbrev cX1_swap : ByteArray := prog_1_method_64_code
def yX1_swap : MethodName := ⟨RX1, "swap", "(II)I"⟩
def dkwX1_swap_1 : List UInt8 := [2, 172, 42, 180, 0, 23, 27, 28, 182, 1, 173, 4, 172]
abbrev dktX1_swap_1 : List UInt8 := dkwX1_swap_1 ++ []
def dkwX1_swap_0 : List UInt8 := [42, 27, 182, 1, 17, 42, 28, 182, 1, 17, 27, 28, 160, 0, 5, 3, 172, 42, 182, 1, 170, 154, 0, 5]
abbrev dktX1_swap_0 : List UInt8 := dkwX1_swap_0 ++ dktX1_swap_1
theorem dksX1_swap_0 : cX1_swap.data.toList.drop 0 = dktX1_swap_0 := by decide +kernel
theorem dksX1_swap_1 : cX1_swap.data.toList.drop 24 = dktX1_swap_1 := dk_seg dksX1_swap_0 24 rfl rfl
theorem dX1_swap_0 : decode cX1_swap 0 = .ok (.aload_n 0, 1) := dk_42 (dk_at dksX1_swap_0 0 rfl rfl)
theorem dX1_swap_1 : decode cX1_swap 1 = .ok (.iload_n 1, 1) := dk_27 (dk_at dksX1_swap_0 1 rfl rfl)
theorem dX1_swap_2 : decode cX1_swap 2 = .ok (.invokevirtual 273, 3) := dk_182 1 17 (dk_at dksX1_swap_0 2 rfl rfl)
theorem dX1_swap_5 : decode cX1_swap 5 = .ok (.aload_n 0, 1) := dk_42 (dk_at dksX1_swap_0 5 rfl rfl)
theorem dX1_swap_6 : decode cX1_swap 6 = .ok (.iload_n 2, 1) := dk_28 (dk_at dksX1_swap_0 6 rfl rfl)
theorem dX1_swap_7 : decode cX1_swap 7 = .ok (.invokevirtual 273, 3) := dk_182 1 17 (dk_at dksX1_swap_0 7 rfl rfl)
theorem dX1_swap_10 : decode cX1_swap 10 = .ok (.iload_n 1, 1) := dk_27 (dk_at dksX1_swap_0 10 rfl rfl)
theorem dX1_swap_11 : decode cX1_swap 11 = .ok (.iload_n 2, 1) := dk_28 (dk_at dksX1_swap_0 11 rfl rfl)
theorem dX1_swap_12 : decode cX1_swap 12 = .ok (.if_icmp .ne 5, 3) := dk_160 0 5 (dk_at dksX1_swap_0 12 rfl rfl)
theorem dX1_swap_15 : decode cX1_swap 15 = .ok (.iconst 0, 1) := dk_3 (dk_at dksX1_swap_0 15 rfl rfl)
theorem dX1_swap_16 : decode cX1_swap 16 = .ok (.ireturn, 1) := dk_172 (dk_at dksX1_swap_0 16 rfl rfl)
theorem dX1_swap_17 : decode cX1_swap 17 = .ok (.aload_n 0, 1) := dk_42 (dk_at dksX1_swap_0 17 rfl rfl)
theorem dX1_swap_18 : decode cX1_swap 18 = .ok (.invokevirtual 426, 3) := dk_182 1 170 (dk_at dksX1_swap_0 18 rfl rfl)
theorem dX1_swap_21 : decode cX1_swap 21 = .ok (.ifCond .ne 5, 3) := dk_154 0 5 (dk_at dksX1_swap_0 21 rfl rfl)
theorem dX1_swap_24 : decode cX1_swap 24 = .ok (.iconst (-1), 1) := dk_2 (dk_at dksX1_swap_1 0 rfl rfl)
theorem dX1_swap_25 : decode cX1_swap 25 = .ok (.ireturn, 1) := dk_172 (dk_at dksX1_swap_1 1 rfl rfl)
theorem dX1_swap_26 : decode cX1_swap 26 = .ok (.aload_n 0, 1) := dk_42 (dk_at dksX1_swap_1 2 rfl rfl)
theorem dX1_swap_27 : decode cX1_swap 27 = .ok (.getfield 23, 3) := dk_180 0 23 (dk_at dksX1_swap_1 3 rfl rfl)
theorem dX1_swap_30 : decode cX1_swap 30 = .ok (.iload_n 1, 1) := dk_27 (dk_at dksX1_swap_1 6 rfl rfl)
theorem dX1_swap_31 : decode cX1_swap 31 = .ok (.iload_n 2, 1) := dk_28 (dk_at dksX1_swap_1 7 rfl rfl)
theorem dX1_swap_32 : decode cX1_swap 32 = .ok (.invokevirtual 429, 3) := dk_182 1 173 (dk_at dksX1_swap_1 8 rfl rfl)
theorem dX1_swap_35 : decode cX1_swap 35 = .ok (.iconst 1, 1) := dk_4 (dk_at dksX1_swap_1 11 rfl rfl)
theorem dX1_swap_36 : decode cX1_swap 36 = .ok (.ireturn, 1) := dk_172 (dk_at dksX1_swap_1 12 rfl rfl)
abbrev cX1_changes : ByteArray := prog_1_method_63_code
def yX1_changes : MethodName := ⟨RX1, "changes", "()Z"⟩
def dkwX1_changes_1 : List UInt8 := [181, 0, 151, 50, 42, 180, 0, 23, 182, 0, 172, 87, 4, 172]
abbrev dktX1_changes_1 : List UInt8 := dkwX1_changes_1 ++ []
def dkwX1_changes_0 : List UInt8 := [42, 180, 0, 151, 16, 20, 160, 0, 5, 3, 172, 42, 180, 0, 27, 42, 89, 180, 0, 151, 90, 4, 96]
abbrev dktX1_changes_0 : List UInt8 := dkwX1_changes_0 ++ dktX1_changes_1
theorem dksX1_changes_0 : cX1_changes.data.toList.drop 0 = dktX1_changes_0 := by decide +kernel
theorem dksX1_changes_1 : cX1_changes.data.toList.drop 23 = dktX1_changes_1 := dk_seg dksX1_changes_0 23 rfl rfl
theorem dX1_changes_0 : decode cX1_changes 0 = .ok (.aload_n 0, 1) := dk_42 (dk_at dksX1_changes_0 0 rfl rfl)
theorem dX1_changes_1 : decode cX1_changes 1 = .ok (.getfield 151, 3) := dk_180 0 151 (dk_at dksX1_changes_0 1 rfl rfl)
theorem dX1_changes_4 : decode cX1_changes 4 = .ok (.bipush 20, 2) := dk_16 20 (dk_at dksX1_changes_0 4 rfl rfl)
theorem dX1_changes_6 : decode cX1_changes 6 = .ok (.if_icmp .ne 5, 3) := dk_160 0 5 (dk_at dksX1_changes_0 6 rfl rfl)
theorem dX1_changes_9 : decode cX1_changes 9 = .ok (.iconst 0, 1) := dk_3 (dk_at dksX1_changes_0 9 rfl rfl)
theorem dX1_changes_10 : decode cX1_changes 10 = .ok (.ireturn, 1) := dk_172 (dk_at dksX1_changes_0 10 rfl rfl)
theorem dX1_changes_11 : decode cX1_changes 11 = .ok (.aload_n 0, 1) := dk_42 (dk_at dksX1_changes_0 11 rfl rfl)
theorem dX1_changes_12 : decode cX1_changes 12 = .ok (.getfield 27, 3) := dk_180 0 27 (dk_at dksX1_changes_0 12 rfl rfl)
theorem dX1_changes_15 : decode cX1_changes 15 = .ok (.aload_n 0, 1) := dk_42 (dk_at dksX1_changes_0 15 rfl rfl)
theorem dX1_changes_16 : decode cX1_changes 16 = .ok (.dup, 1) := dk_89 (dk_at dksX1_changes_0 16 rfl rfl)
theorem dX1_changes_17 : decode cX1_changes 17 = .ok (.getfield 151, 3) := dk_180 0 151 (dk_at dksX1_changes_0 17 rfl rfl)
theorem dX1_changes_20 : decode cX1_changes 20 = .ok (.dup_x1, 1) := dk_90 (dk_at dksX1_changes_0 20 rfl rfl)
theorem dX1_changes_21 : decode cX1_changes 21 = .ok (.iconst 1, 1) := dk_4 (dk_at dksX1_changes_0 21 rfl rfl)
theorem dX1_changes_22 : decode cX1_changes 22 = .ok (.iadd, 1) := dk_96 (dk_at dksX1_changes_0 22 rfl rfl)
theorem dX1_changes_23 : decode cX1_changes 23 = .ok (.putfield 151, 3) := dk_181 0 151 (dk_at dksX1_changes_1 0 rfl rfl)
theorem dX1_changes_26 : decode cX1_changes 26 = .ok (.aaload, 1) := dk_50 (dk_at dksX1_changes_1 3 rfl rfl)
theorem dX1_changes_27 : decode cX1_changes 27 = .ok (.aload_n 0, 1) := dk_42 (dk_at dksX1_changes_1 4 rfl rfl)
theorem dX1_changes_28 : decode cX1_changes 28 = .ok (.getfield 23, 3) := dk_180 0 23 (dk_at dksX1_changes_1 5 rfl rfl)
theorem dX1_changes_31 : decode cX1_changes 31 = .ok (.invokevirtual 172, 3) := dk_182 0 172 (dk_at dksX1_changes_1 8 rfl rfl)
theorem dX1_changes_34 : decode cX1_changes 34 = .ok (.pop, 1) := dk_87 (dk_at dksX1_changes_1 11 rfl rfl)
theorem dX1_changes_35 : decode cX1_changes 35 = .ok (.iconst 1, 1) := dk_4 (dk_at dksX1_changes_1 12 rfl rfl)
theorem dX1_changes_36 : decode cX1_changes 36 = .ok (.ireturn, 1) := dk_172 (dk_at dksX1_changes_1 13 rfl rfl)
abbrev cX1_hand : ByteArray := prog_1_method_65_code
def yX1_hand : MethodName := ⟨RX1, "hand", "(II)I"⟩
def dkwX1_hand_2 : List UInt8 := [27, 28, 79, 4, 172]
abbrev dktX1_hand_2 : List UInt8 := dkwX1_hand_2 ++ []
def dkwX1_hand_1 : List UInt8 := [184, 1, 84, 4, 5, 182, 0, 125, 42, 182, 1, 170, 154, 0, 5, 2, 172, 42, 180, 0, 23, 180, 1, 27]
abbrev dktX1_hand_1 : List UInt8 := dkwX1_hand_1 ++ dktX1_hand_2
def dkwX1_hand_0 : List UInt8 := [42, 27, 182, 1, 17, 42, 28, 4, 4, 42, 180, 0, 79, 180, 0, 97, 120, 4, 100, 182, 0, 125, 42, 28]
abbrev dktX1_hand_0 : List UInt8 := dkwX1_hand_0 ++ dktX1_hand_1
theorem dksX1_hand_0 : cX1_hand.data.toList.drop 0 = dktX1_hand_0 := by decide +kernel
theorem dksX1_hand_1 : cX1_hand.data.toList.drop 24 = dktX1_hand_1 := dk_seg dksX1_hand_0 24 rfl rfl
theorem dksX1_hand_2 : cX1_hand.data.toList.drop 48 = dktX1_hand_2 := dk_seg dksX1_hand_1 24 rfl rfl
theorem dX1_hand_0 : decode cX1_hand 0 = .ok (.aload_n 0, 1) := dk_42 (dk_at dksX1_hand_0 0 rfl rfl)
theorem dX1_hand_1 : decode cX1_hand 1 = .ok (.iload_n 1, 1) := dk_27 (dk_at dksX1_hand_0 1 rfl rfl)
theorem dX1_hand_2 : decode cX1_hand 2 = .ok (.invokevirtual 273, 3) := dk_182 1 17 (dk_at dksX1_hand_0 2 rfl rfl)
theorem dX1_hand_5 : decode cX1_hand 5 = .ok (.aload_n 0, 1) := dk_42 (dk_at dksX1_hand_0 5 rfl rfl)
theorem dX1_hand_6 : decode cX1_hand 6 = .ok (.iload_n 2, 1) := dk_28 (dk_at dksX1_hand_0 6 rfl rfl)
theorem dX1_hand_7 : decode cX1_hand 7 = .ok (.iconst 1, 1) := dk_4 (dk_at dksX1_hand_0 7 rfl rfl)
theorem dX1_hand_8 : decode cX1_hand 8 = .ok (.iconst 1, 1) := dk_4 (dk_at dksX1_hand_0 8 rfl rfl)
theorem dX1_hand_9 : decode cX1_hand 9 = .ok (.aload_n 0, 1) := dk_42 (dk_at dksX1_hand_0 9 rfl rfl)
theorem dX1_hand_10 : decode cX1_hand 10 = .ok (.getfield 79, 3) := dk_180 0 79 (dk_at dksX1_hand_0 10 rfl rfl)
theorem dX1_hand_13 : decode cX1_hand 13 = .ok (.getfield 97, 3) := dk_180 0 97 (dk_at dksX1_hand_0 13 rfl rfl)
theorem dX1_hand_16 : decode cX1_hand 16 = .ok (.ishl, 1) := dk_120 (dk_at dksX1_hand_0 16 rfl rfl)
theorem dX1_hand_17 : decode cX1_hand 17 = .ok (.iconst 1, 1) := dk_4 (dk_at dksX1_hand_0 17 rfl rfl)
theorem dX1_hand_18 : decode cX1_hand 18 = .ok (.isub, 1) := dk_100 (dk_at dksX1_hand_0 18 rfl rfl)
theorem dX1_hand_19 : decode cX1_hand 19 = .ok (.invokevirtual 125, 3) := dk_182 0 125 (dk_at dksX1_hand_0 19 rfl rfl)
theorem dX1_hand_22 : decode cX1_hand 22 = .ok (.aload_n 0, 1) := dk_42 (dk_at dksX1_hand_0 22 rfl rfl)
theorem dX1_hand_23 : decode cX1_hand 23 = .ok (.iload_n 2, 1) := dk_28 (dk_at dksX1_hand_0 23 rfl rfl)
theorem dX1_hand_24 : decode cX1_hand 24 = .ok (.invokestatic 340, 3) := dk_184 1 84 (dk_at dksX1_hand_1 0 rfl rfl)
theorem dX1_hand_27 : decode cX1_hand 27 = .ok (.iconst 1, 1) := dk_4 (dk_at dksX1_hand_1 3 rfl rfl)
theorem dX1_hand_28 : decode cX1_hand 28 = .ok (.iconst 2, 1) := dk_5 (dk_at dksX1_hand_1 4 rfl rfl)
theorem dX1_hand_29 : decode cX1_hand 29 = .ok (.invokevirtual 125, 3) := dk_182 0 125 (dk_at dksX1_hand_1 5 rfl rfl)
theorem dX1_hand_32 : decode cX1_hand 32 = .ok (.aload_n 0, 1) := dk_42 (dk_at dksX1_hand_1 8 rfl rfl)
theorem dX1_hand_33 : decode cX1_hand 33 = .ok (.invokevirtual 426, 3) := dk_182 1 170 (dk_at dksX1_hand_1 9 rfl rfl)
theorem dX1_hand_36 : decode cX1_hand 36 = .ok (.ifCond .ne 5, 3) := dk_154 0 5 (dk_at dksX1_hand_1 12 rfl rfl)
theorem dX1_hand_39 : decode cX1_hand 39 = .ok (.iconst (-1), 1) := dk_2 (dk_at dksX1_hand_1 15 rfl rfl)
theorem dX1_hand_40 : decode cX1_hand 40 = .ok (.ireturn, 1) := dk_172 (dk_at dksX1_hand_1 16 rfl rfl)
theorem dX1_hand_41 : decode cX1_hand 41 = .ok (.aload_n 0, 1) := dk_42 (dk_at dksX1_hand_1 17 rfl rfl)
theorem dX1_hand_42 : decode cX1_hand 42 = .ok (.getfield 23, 3) := dk_180 0 23 (dk_at dksX1_hand_1 18 rfl rfl)
theorem dX1_hand_45 : decode cX1_hand 45 = .ok (.getfield 283, 3) := dk_180 1 27 (dk_at dksX1_hand_1 21 rfl rfl)
theorem dX1_hand_48 : decode cX1_hand 48 = .ok (.iload_n 1, 1) := dk_27 (dk_at dksX1_hand_2 0 rfl rfl)
theorem dX1_hand_49 : decode cX1_hand 49 = .ok (.iload_n 2, 1) := dk_28 (dk_at dksX1_hand_2 1 rfl rfl)
theorem dX1_hand_50 : decode cX1_hand 50 = .ok (.iastore, 1) := dk_79 (dk_at dksX1_hand_2 2 rfl rfl)
theorem dX1_hand_51 : decode cX1_hand 51 = .ok (.iconst 1, 1) := dk_4 (dk_at dksX1_hand_2 3 rfl rfl)
theorem dX1_hand_52 : decode cX1_hand 52 = .ok (.ireturn, 1) := dk_172 (dk_at dksX1_hand_2 4 rfl rfl)
abbrev cX1_drop : ByteArray := prog_1_method_66_code
def yX1_drop : MethodName := ⟨RX1, "drop", "(I)I"⟩
def dkwX1_drop_1 : List UInt8 := [180, 0, 23, 180, 0, 100, 172]
abbrev dktX1_drop_1 : List UInt8 := dkwX1_drop_1 ++ []
def dkwX1_drop_0 : List UInt8 := [42, 27, 182, 1, 17, 42, 182, 1, 170, 154, 0, 5, 2, 172, 42, 180, 0, 23, 27, 182, 1, 176, 42]
abbrev dktX1_drop_0 : List UInt8 := dkwX1_drop_0 ++ dktX1_drop_1
theorem dksX1_drop_0 : cX1_drop.data.toList.drop 0 = dktX1_drop_0 := by decide +kernel
theorem dksX1_drop_1 : cX1_drop.data.toList.drop 23 = dktX1_drop_1 := dk_seg dksX1_drop_0 23 rfl rfl
theorem dX1_drop_0 : decode cX1_drop 0 = .ok (.aload_n 0, 1) := dk_42 (dk_at dksX1_drop_0 0 rfl rfl)
theorem dX1_drop_1 : decode cX1_drop 1 = .ok (.iload_n 1, 1) := dk_27 (dk_at dksX1_drop_0 1 rfl rfl)
theorem dX1_drop_2 : decode cX1_drop 2 = .ok (.invokevirtual 273, 3) := dk_182 1 17 (dk_at dksX1_drop_0 2 rfl rfl)
theorem dX1_drop_5 : decode cX1_drop 5 = .ok (.aload_n 0, 1) := dk_42 (dk_at dksX1_drop_0 5 rfl rfl)
theorem dX1_drop_6 : decode cX1_drop 6 = .ok (.invokevirtual 426, 3) := dk_182 1 170 (dk_at dksX1_drop_0 6 rfl rfl)
theorem dX1_drop_9 : decode cX1_drop 9 = .ok (.ifCond .ne 5, 3) := dk_154 0 5 (dk_at dksX1_drop_0 9 rfl rfl)
theorem dX1_drop_12 : decode cX1_drop 12 = .ok (.iconst (-1), 1) := dk_2 (dk_at dksX1_drop_0 12 rfl rfl)
theorem dX1_drop_13 : decode cX1_drop 13 = .ok (.ireturn, 1) := dk_172 (dk_at dksX1_drop_0 13 rfl rfl)
theorem dX1_drop_14 : decode cX1_drop 14 = .ok (.aload_n 0, 1) := dk_42 (dk_at dksX1_drop_0 14 rfl rfl)
theorem dX1_drop_15 : decode cX1_drop 15 = .ok (.getfield 23, 3) := dk_180 0 23 (dk_at dksX1_drop_0 15 rfl rfl)
theorem dX1_drop_18 : decode cX1_drop 18 = .ok (.iload_n 1, 1) := dk_27 (dk_at dksX1_drop_0 18 rfl rfl)
theorem dX1_drop_19 : decode cX1_drop 19 = .ok (.invokevirtual 432, 3) := dk_182 1 176 (dk_at dksX1_drop_0 19 rfl rfl)
theorem dX1_drop_22 : decode cX1_drop 22 = .ok (.aload_n 0, 1) := dk_42 (dk_at dksX1_drop_0 22 rfl rfl)
theorem dX1_drop_23 : decode cX1_drop 23 = .ok (.getfield 23, 3) := dk_180 0 23 (dk_at dksX1_drop_1 0 rfl rfl)
theorem dX1_drop_26 : decode cX1_drop 26 = .ok (.getfield 100, 3) := dk_180 0 100 (dk_at dksX1_drop_1 3 rfl rfl)
theorem dX1_drop_29 : decode cX1_drop 29 = .ok (.ireturn, 1) := dk_172 (dk_at dksX1_drop_1 6 rfl rfl)
theorem q96 : (Jvm.Cond.initialized "RainWheel") ∈ lw_all := lw_g (lw_at lw_m1 1 rfl) rfl
theorem q127 : (Jvm.Cond.instantiable "RainWheel" (18 : Nat)) ∈ lw_all := lw_g (lw_at lw_m1 32 rfl) rfl
theorem q129 : (Jvm.Cond.instanceMethod ({ cls := "RainWheel", name := "<init>", desc := "()V" } : Jvm.MethodName)) ∈ lw_all := lw_g (lw_at lw_m1 34 rfl) rfl
theorem q130 : (Jvm.Cond.code ({ cls := "RainWheel", name := "<init>", desc := "()V" } : Jvm.MethodName) prog_1_method_3_code (3 : Nat) (Option.none : Option Jvm.ClassFile.FieldType)) ∈ lw_all := lw_g (lw_at lw_m1 35 rfl) rfl
theorem q131 : (Jvm.Cond.methodLink "RainWheel" (1 : Nat) ({ cls := "java/lang/Object", name := "<init>", desc := "()V" } : Jvm.MethodName)) ∈ lw_all := lw_g (lw_at lw_m1 36 rfl) rfl
theorem q134 : (Jvm.Cond.classLink "RainWheel" (13 : Nat) "RainWheel$Law") ∈ lw_all := lw_g (lw_at lw_m1 39 rfl) rfl
theorem q136 : (Jvm.Cond.methodLinkNest "RainWheel" (15 : Nat) ({ cls := "RainWheel$Law", name := "<init>", desc := "()V" } : Jvm.MethodName) "RainWheel") ∈ lw_tbl := lw_at lw_m1 41 rfl
theorem q141 : (Jvm.Cond.fieldLinkNest "RainWheel" (146 : Nat) "RainWheel$Law" "term" "LRainWheel$Term;" "RainWheel") ∈ lw_tbl := lw_at lw_m1 46 rfl
theorem q146 : (Jvm.Cond.classLink "RainWheel" (20 : Nat) "RainWheel$Plan") ∈ lw_all := lw_g (lw_at lw_m1 51 rfl) rfl
theorem q148 : (Jvm.Cond.methodLinkNest "RainWheel" (22 : Nat) ({ cls := "RainWheel$Plan", name := "<init>", desc := "()V" } : Jvm.MethodName) "RainWheel") ∈ lw_tbl := lw_at lw_m1 53 rfl
theorem q154 : (Jvm.Cond.fieldLinkNest "RainWheel" (280 : Nat) "RainWheel$Plan" "deed" "[I" "RainWheel") ∈ lw_tbl := lw_at lw_m1 59 rfl
theorem q157 : (Jvm.Cond.fieldLinkNest "RainWheel" (283 : Nat) "RainWheel$Plan" "who" "[I" "RainWheel") ∈ lw_tbl := lw_at lw_m1 62 rfl
theorem q160 : (Jvm.Cond.fieldLinkNest "RainWheel" (100 : Nat) "RainWheel$Plan" "lines" "I" "RainWheel") ∈ lw_tbl := lw_at lw_m1 65 rfl
theorem q170 : (Jvm.Cond.classLink "RainWheel" (31 : Nat) "[[LRainWheel$Plan;") ∈ lw_all := lw_g (lw_at lw_m1 75 rfl) rfl
theorem q173 : (Jvm.Cond.classLink "RainWheel" (46 : Nat) "RainWheel$Watch") ∈ lw_all := lw_g (lw_at lw_m1 78 rfl) rfl
theorem q175 : (Jvm.Cond.methodLink "RainWheel" (48 : Nat) ({ cls := "RainWheel$Watch", name := "<init>", desc := "(LRainWheel$Law;)V" } : Jvm.MethodName)) ∈ lw_all := lw_g (lw_at lw_m1 80 rfl) rfl
theorem q188 : (Jvm.Cond.fieldLinkNest "RainWheel" (247 : Nat) "RainWheel$Sight" "minutes" "I" "RainWheel") ∈ lw_tbl := lw_at lw_m1 93 rfl
theorem q191 : (Jvm.Cond.fieldLinkNest "RainWheel" (249 : Nat) "RainWheel$Sight" "hands" "I" "RainWheel") ∈ lw_tbl := lw_at lw_m1 96 rfl
theorem q194 : (Jvm.Cond.fieldLinkNest "RainWheel" (251 : Nat) "RainWheel$Sight" "strong" "I" "RainWheel") ∈ lw_tbl := lw_at lw_m1 99 rfl
theorem q197 : (Jvm.Cond.fieldLinkNest "RainWheel" (253 : Nat) "RainWheel$Sight" "rain" "I" "RainWheel") ∈ lw_tbl := lw_at lw_m1 102 rfl
theorem q200 : (Jvm.Cond.fieldLinkNest "RainWheel" (256 : Nat) "RainWheel$Sight" "minute" "I" "RainWheel") ∈ lw_tbl := lw_at lw_m1 105 rfl
theorem q203 : (Jvm.Cond.fieldLinkNest "RainWheel" (259 : Nat) "RainWheel$Sight" "out" "I" "RainWheel") ∈ lw_tbl := lw_at lw_m1 108 rfl
theorem q218 : (Jvm.Cond.fieldLinkNest "RainWheel" (286 : Nat) "RainWheel$Watch" "begins" "[I" "RainWheel") ∈ lw_tbl := lw_at lw_m1 123 rfl
theorem q220 : (Jvm.Cond.fieldLinkNest "RainWheel" (289 : Nat) "RainWheel$Watch" "ends" "[I" "RainWheel") ∈ lw_tbl := lw_at lw_m1 125 rfl
theorem q224 : (Jvm.Cond.fieldLinkNest "RainWheel" (295 : Nat) "RainWheel$Watch" "wet" "[I" "RainWheel") ∈ lw_tbl := lw_at lw_m1 129 rfl
theorem q226 : (Jvm.Cond.fieldLinkNest "RainWheel" (298 : Nat) "RainWheel$Watch" "busy" "[I" "RainWheel") ∈ lw_tbl := lw_at lw_m1 131 rfl
theorem q232 : (Jvm.Cond.fieldLinkNest "RainWheel" (292 : Nat) "RainWheel$Watch" "span" "I" "RainWheel") ∈ lw_tbl := lw_at lw_m1 137 rfl
theorem q234 : (Jvm.Cond.fieldLinkNest "RainWheel" (423 : Nat) "RainWheel$Watch" "agains" "I" "RainWheel") ∈ lw_tbl := lw_at lw_m1 139 rfl
theorem q270 : (Jvm.Cond.classLink "RainWheel" (55 : Nat) "RainWheel$Soonest") ∈ lw_all := lw_g (lw_at lw_m1 175 rfl) rfl
theorem q272 : (Jvm.Cond.methodLink "RainWheel" (57 : Nat) ({ cls := "RainWheel$Soonest", name := "<init>", desc := "(LRainWheel$Law;)V" } : Jvm.MethodName)) ∈ lw_all := lw_g (lw_at lw_m1 177 rfl) rfl
theorem q283 : (Jvm.Cond.fieldLinkNest "RainWheel" (327 : Nat) "RainWheel$Soonest" "bestDeed" "[I" "RainWheel") ∈ lw_tbl := lw_at lw_m1 188 rfl
theorem q285 : (Jvm.Cond.fieldLinkNest "RainWheel" (330 : Nat) "RainWheel$Soonest" "bestWho" "[I" "RainWheel") ∈ lw_tbl := lw_at lw_m1 190 rfl
theorem q287 : (Jvm.Cond.fieldLinkNest "RainWheel" (324 : Nat) "RainWheel$Soonest" "span" "I" "RainWheel") ∈ lw_tbl := lw_at lw_m1 192 rfl
theorem q289 : (Jvm.Cond.fieldLinkNest "RainWheel" (325 : Nat) "RainWheel$Soonest" "wet" "I" "RainWheel") ∈ lw_tbl := lw_at lw_m1 194 rfl
theorem q305 : (Jvm.Cond.classLink "RainWheel" (62 : Nat) "RainWheel$Ring") ∈ lw_all := lw_g (lw_at lw_m1 210 rfl) rfl
theorem q307 : (Jvm.Cond.methodLinkNest "RainWheel" (64 : Nat) ({ cls := "RainWheel$Ring", name := "<init>", desc := "()V" } : Jvm.MethodName) "RainWheel") ∈ lw_tbl := lw_at lw_m1 212 rfl
theorem q314 : (Jvm.Cond.fieldLinkNest "RainWheel" (378 : Nat) "RainWheel$Ring" "least" "I" "RainWheel") ∈ lw_tbl := lw_at lw_m1 219 rfl
theorem q316 : (Jvm.Cond.fieldLinkNest "RainWheel" (381 : Nat) "RainWheel$Ring" "digits" "I" "RainWheel") ∈ lw_tbl := lw_at lw_m1 221 rfl
theorem q326 : (Jvm.Cond.classLink "RainWheel" (69 : Nat) "RainWheel$Miles") ∈ lw_all := lw_g (lw_at lw_m1 231 rfl) rfl
theorem q328 : (Jvm.Cond.methodLinkNest "RainWheel" (71 : Nat) ({ cls := "RainWheel$Miles", name := "<init>", desc := "()V" } : Jvm.MethodName) "RainWheel") ∈ lw_tbl := lw_at lw_m1 233 rfl
theorem q333 : (Jvm.Cond.fieldLinkNest "RainWheel" (393 : Nat) "RainWheel$Miles" "minutes" "[I" "RainWheel") ∈ lw_tbl := lw_at lw_m1 238 rfl
theorem q335 : (Jvm.Cond.fieldLinkNest "RainWheel" (397 : Nat) "RainWheel$Miles" "pumps" "[I" "RainWheel") ∈ lw_tbl := lw_at lw_m2 0 rfl
theorem q347 : (Jvm.Cond.classLink "RainWheel" (76 : Nat) "RainWheel$Road") ∈ lw_all := lw_g (lw_at lw_m2 12 rfl) rfl
theorem q349 : (Jvm.Cond.methodLink "RainWheel" (78 : Nat) ({ cls := "RainWheel$Road", name := "<init>", desc := "()V" } : Jvm.MethodName)) ∈ lw_all := lw_g (lw_at lw_m2 14 rfl) rfl
theorem q357 : (Jvm.Cond.fieldLinkNest "RainWheel" (234 : Nat) "RainWheel$Road" "strong" "[I" "RainWheel") ∈ lw_tbl := lw_at lw_m2 22 rfl
theorem q361 : (Jvm.Cond.fieldLinkNest "RainWheel" (216 : Nat) "RainWheel$Road" "minutes" "[I" "RainWheel") ∈ lw_tbl := lw_at lw_m2 26 rfl
theorem q365 : (Jvm.Cond.fieldLinkNest "RainWheel" (219 : Nat) "RainWheel$Road" "out" "[I" "RainWheel") ∈ lw_tbl := lw_at lw_m2 30 rfl
theorem q369 : (Jvm.Cond.fieldLinkNest "RainWheel" (222 : Nat) "RainWheel$Road" "hands" "[I" "RainWheel") ∈ lw_tbl := lw_at lw_m2 34 rfl
theorem q372 : (Jvm.Cond.fieldLinkNest "RainWheel" (225 : Nat) "RainWheel$Road" "strength" "[I" "RainWheel") ∈ lw_tbl := lw_at lw_m2 37 rfl
theorem q376 : (Jvm.Cond.fieldLinkNest "RainWheel" (228 : Nat) "RainWheel$Road" "needs" "[I" "RainWheel") ∈ lw_tbl := lw_at lw_m2 41 rfl
theorem q383 : (Jvm.Cond.fieldLinkNest "RainWheel" (237 : Nat) "RainWheel$Road" "bears" "[I" "RainWheel") ∈ lw_tbl := lw_at lw_m2 48 rfl
theorem q388 : (Jvm.Cond.fieldLinkNest "RainWheel" (348 : Nat) "RainWheel$Road" "rust" "[I" "RainWheel") ∈ lw_tbl := lw_at lw_m2 53 rfl
theorem q391 : (Jvm.Cond.fieldLinkNest "RainWheel" (400 : Nat) "RainWheel$Road" "likely" "[I" "RainWheel") ∈ lw_tbl := lw_at lw_m2 56 rfl
theorem q394 : (Jvm.Cond.fieldLinkNest "RainWheel" (403 : Nat) "RainWheel$Road" "shows" "[[I" "RainWheel") ∈ lw_tbl := lw_at lw_m2 59 rfl
theorem q399 : (Jvm.Cond.fieldLinkNest "RainWheel" (97 : Nat) "RainWheel$Road" "people" "I" "RainWheel") ∈ lw_tbl := lw_at lw_m2 64 rfl
theorem q404 : (Jvm.Cond.fieldLinkNest "RainWheel" (90 : Nat) "RainWheel$Road" "deeds" "I" "RainWheel") ∈ lw_tbl := lw_at lw_m2 69 rfl
theorem q409 : (Jvm.Cond.fieldLinkNest "RainWheel" (197 : Nat) "RainWheel$Road" "boards" "I" "RainWheel") ∈ lw_tbl := lw_at lw_m2 74 rfl
theorem q411 : (Jvm.Cond.fieldLinkNest "RainWheel" (200 : Nat) "RainWheel$Road" "nuts" "I" "RainWheel") ∈ lw_tbl := lw_at lw_m2 76 rfl
theorem q413 : (Jvm.Cond.fieldLinkNest "RainWheel" (203 : Nat) "RainWheel$Road" "causes" "I" "RainWheel") ∈ lw_tbl := lw_at lw_m2 78 rfl
theorem q416 : (Jvm.Cond.fieldLinkNest "RainWheel" (206 : Nat) "RainWheel$Road" "load" "I" "RainWheel") ∈ lw_tbl := lw_at lw_m2 81 rfl
theorem q419 : (Jvm.Cond.fieldLinkNest "RainWheel" (209 : Nat) "RainWheel$Road" "stops" "I" "RainWheel") ∈ lw_tbl := lw_at lw_m2 84 rfl
theorem q424 : (Jvm.Cond.fieldLinkNest "RainWheel" (394 : Nat) "RainWheel$Road" "soft" "I" "RainWheel") ∈ lw_tbl := lw_at lw_m2 89 rfl
theorem q427 : (Jvm.Cond.fieldLinkNest "RainWheel" (387 : Nat) "RainWheel$Road" "each" "I" "RainWheel") ∈ lw_tbl := lw_at lw_m2 92 rfl
theorem q477 : (Jvm.Cond.fieldLink "RainWheel" (9 : Nat) "RainWheel" "tape" "[B") ∈ lw_all := lw_g (lw_at lw_m2 142 rfl) rfl
theorem q478 : (Jvm.Cond.fieldLink "RainWheel" (16 : Nat) "RainWheel" "law" "LRainWheel$Law;") ∈ lw_all := lw_g (lw_at lw_m2 143 rfl) rfl
theorem q479 : (Jvm.Cond.fieldLink "RainWheel" (23 : Nat) "RainWheel" "plan" "LRainWheel$Plan;") ∈ lw_all := lw_g (lw_at lw_m2 144 rfl) rfl
theorem q480 : (Jvm.Cond.fieldLink "RainWheel" (27 : Nat) "RainWheel" "before" "[LRainWheel$Plan;") ∈ lw_all := lw_g (lw_at lw_m2 145 rfl) rfl
theorem q481 : (Jvm.Cond.fieldLink "RainWheel" (33 : Nat) "RainWheel" "images" "[[LRainWheel$Plan;") ∈ lw_all := lw_g (lw_at lw_m2 146 rfl) rfl
theorem q482 : (Jvm.Cond.fieldLink "RainWheel" (36 : Nat) "RainWheel" "imageChanges" "[I") ∈ lw_all := lw_g (lw_at lw_m2 147 rfl) rfl
theorem q483 : (Jvm.Cond.fieldLink "RainWheel" (40 : Nat) "RainWheel" "refused" "[I") ∈ lw_all := lw_g (lw_at lw_m2 148 rfl) rfl
theorem q484 : (Jvm.Cond.fieldLink "RainWheel" (43 : Nat) "RainWheel" "seen" "[I") ∈ lw_all := lw_g (lw_at lw_m2 149 rfl) rfl
theorem q485 : (Jvm.Cond.fieldLink "RainWheel" (51 : Nat) "RainWheel" "watch" "LRainWheel$Watch;") ∈ lw_all := lw_g (lw_at lw_m2 150 rfl) rfl
theorem q486 : (Jvm.Cond.fieldLink "RainWheel" (58 : Nat) "RainWheel" "soonest" "LRainWheel$Soonest;") ∈ lw_all := lw_g (lw_at lw_m2 151 rfl) rfl
theorem q487 : (Jvm.Cond.fieldLink "RainWheel" (65 : Nat) "RainWheel" "ring" "LRainWheel$Ring;") ∈ lw_all := lw_g (lw_at lw_m2 152 rfl) rfl
theorem q488 : (Jvm.Cond.fieldLink "RainWheel" (72 : Nat) "RainWheel" "miles" "LRainWheel$Miles;") ∈ lw_all := lw_g (lw_at lw_m2 153 rfl) rfl
theorem q489 : (Jvm.Cond.fieldLink "RainWheel" (79 : Nat) "RainWheel" "road" "LRainWheel$Road;") ∈ lw_all := lw_g (lw_at lw_m2 154 rfl) rfl
theorem q490 : (Jvm.Cond.fieldLink "RainWheel" (109 : Nat) "RainWheel" "fed" "I") ∈ lw_all := lw_g (lw_at lw_m2 155 rfl) rfl
theorem q491 : (Jvm.Cond.fieldLink "RainWheel" (83 : Nat) "RainWheel" "place" "I") ∈ lw_all := lw_g (lw_at lw_m2 156 rfl) rfl
theorem q492 : (Jvm.Cond.fieldLink "RainWheel" (150 : Nat) "RainWheel" "lines" "I") ∈ lw_all := lw_g (lw_at lw_m2 157 rfl) rfl
theorem q493 : (Jvm.Cond.fieldLink "RainWheel" (151 : Nat) "RainWheel" "changes" "I") ∈ lw_all := lw_g (lw_at lw_m2 158 rfl) rfl
theorem q494 : (Jvm.Cond.fieldLink "RainWheel" (154 : Nat) "RainWheel" "kept" "I") ∈ lw_all := lw_g (lw_at lw_m2 159 rfl) rfl
theorem q495 : (Jvm.Cond.laysFinal "RainWheel" "RainWheel" "tape" "[B") ∈ lw_all := lw_g (lw_at lw_m2 160 rfl) rfl
theorem q496 : (Jvm.Cond.soleField "RainWheel" "tape") ∈ lw_all := lw_g (lw_at lw_m2 161 rfl) rfl
theorem q497 : (Jvm.Cond.laysFinal "RainWheel" "RainWheel" "law" "LRainWheel$Law;") ∈ lw_all := lw_g (lw_at lw_m2 162 rfl) rfl
theorem q498 : (Jvm.Cond.soleField "RainWheel" "law") ∈ lw_all := lw_g (lw_at lw_m2 163 rfl) rfl
theorem q499 : (Jvm.Cond.laysFinal "RainWheel" "RainWheel" "plan" "LRainWheel$Plan;") ∈ lw_all := lw_g (lw_at lw_m2 164 rfl) rfl
theorem q500 : (Jvm.Cond.soleField "RainWheel" "plan") ∈ lw_all := lw_g (lw_at lw_m2 165 rfl) rfl
theorem q501 : (Jvm.Cond.laysFinal "RainWheel" "RainWheel" "before" "[LRainWheel$Plan;") ∈ lw_all := lw_g (lw_at lw_m2 166 rfl) rfl
theorem q502 : (Jvm.Cond.soleField "RainWheel" "before") ∈ lw_all := lw_g (lw_at lw_m2 167 rfl) rfl
theorem q503 : (Jvm.Cond.laysFinal "RainWheel" "RainWheel" "images" "[[LRainWheel$Plan;") ∈ lw_all := lw_g (lw_at lw_m2 168 rfl) rfl
theorem q504 : (Jvm.Cond.soleField "RainWheel" "images") ∈ lw_all := lw_g (lw_at lw_m2 169 rfl) rfl
theorem q505 : (Jvm.Cond.laysFinal "RainWheel" "RainWheel" "imageChanges" "[I") ∈ lw_all := lw_g (lw_at lw_m2 170 rfl) rfl
theorem q506 : (Jvm.Cond.soleField "RainWheel" "imageChanges") ∈ lw_all := lw_g (lw_at lw_m2 171 rfl) rfl
theorem q507 : (Jvm.Cond.laysFinal "RainWheel" "RainWheel" "refused" "[I") ∈ lw_all := lw_g (lw_at lw_m2 172 rfl) rfl
theorem q508 : (Jvm.Cond.soleField "RainWheel" "refused") ∈ lw_all := lw_g (lw_at lw_m2 173 rfl) rfl
theorem q509 : (Jvm.Cond.laysFinal "RainWheel" "RainWheel" "seen" "[I") ∈ lw_all := lw_g (lw_at lw_m2 174 rfl) rfl
theorem q510 : (Jvm.Cond.soleField "RainWheel" "seen") ∈ lw_all := lw_g (lw_at lw_m2 175 rfl) rfl
theorem q511 : (Jvm.Cond.laysFinal "RainWheel" "RainWheel" "watch" "LRainWheel$Watch;") ∈ lw_all := lw_g (lw_at lw_m2 176 rfl) rfl
theorem q512 : (Jvm.Cond.soleField "RainWheel" "watch") ∈ lw_all := lw_g (lw_at lw_m2 177 rfl) rfl
theorem q513 : (Jvm.Cond.laysFinal "RainWheel" "RainWheel" "soonest" "LRainWheel$Soonest;") ∈ lw_all := lw_g (lw_at lw_m2 178 rfl) rfl
theorem q514 : (Jvm.Cond.soleField "RainWheel" "soonest") ∈ lw_all := lw_g (lw_at lw_m2 179 rfl) rfl
theorem q515 : (Jvm.Cond.laysFinal "RainWheel" "RainWheel" "ring" "LRainWheel$Ring;") ∈ lw_all := lw_g (lw_at lw_m2 180 rfl) rfl
theorem q516 : (Jvm.Cond.soleField "RainWheel" "ring") ∈ lw_all := lw_g (lw_at lw_m2 181 rfl) rfl
theorem q517 : (Jvm.Cond.laysFinal "RainWheel" "RainWheel" "miles" "LRainWheel$Miles;") ∈ lw_all := lw_g (lw_at lw_m2 182 rfl) rfl
theorem q518 : (Jvm.Cond.soleField "RainWheel" "miles") ∈ lw_all := lw_g (lw_at lw_m2 183 rfl) rfl
theorem q519 : (Jvm.Cond.lays "RainWheel" "RainWheel" "road" "LRainWheel$Road;") ∈ lw_all := lw_g (lw_at lw_m2 184 rfl) rfl
theorem q520 : (Jvm.Cond.soleField "RainWheel" "road") ∈ lw_all := lw_g (lw_at lw_m2 185 rfl) rfl
theorem q521 : (Jvm.Cond.lays "RainWheel" "RainWheel" "fed" "I") ∈ lw_all := lw_g (lw_at lw_m2 186 rfl) rfl
theorem q522 : (Jvm.Cond.soleField "RainWheel" "fed") ∈ lw_all := lw_g (lw_at lw_m2 187 rfl) rfl
theorem q523 : (Jvm.Cond.lays "RainWheel" "RainWheel" "place" "I") ∈ lw_all := lw_g (lw_at lw_m2 188 rfl) rfl
theorem q524 : (Jvm.Cond.soleField "RainWheel" "place") ∈ lw_all := lw_g (lw_at lw_m2 189 rfl) rfl
theorem q525 : (Jvm.Cond.lays "RainWheel" "RainWheel" "lines" "I") ∈ lw_all := lw_g (lw_at lw_m2 190 rfl) rfl
theorem q526 : (Jvm.Cond.soleField "RainWheel" "lines") ∈ lw_all := lw_g (lw_at lw_m2 191 rfl) rfl
theorem q527 : (Jvm.Cond.lays "RainWheel" "RainWheel" "changes" "I") ∈ lw_all := lw_g (lw_at lw_m2 192 rfl) rfl
theorem q528 : (Jvm.Cond.soleField "RainWheel" "changes") ∈ lw_all := lw_g (lw_at lw_m2 193 rfl) rfl
theorem q529 : (Jvm.Cond.lays "RainWheel" "RainWheel" "kept" "I") ∈ lw_all := lw_g (lw_at lw_m2 194 rfl) rfl
theorem q530 : (Jvm.Cond.soleField "RainWheel" "kept") ∈ lw_all := lw_g (lw_at lw_m2 195 rfl) rfl
theorem q531 : (Jvm.Cond.superclass "RainWheel" "java/lang/Object") ∈ lw_all := lw_g (lw_at lw_m2 196 rfl) rfl
theorem q533 : (Jvm.Cond.instanceMethod ({ cls := "RainWheel", name := "feed", desc := "(IIIII)I" } : Jvm.MethodName)) ∈ lw_all := lw_g (lw_at lw_m2 198 rfl) rfl
theorem q534 : (Jvm.Cond.selects "RainWheel" ({ cls := "RainWheel", name := "feed", desc := "(IIIII)I" } : Jvm.MethodName) ({ cls := "RainWheel", name := "feed", desc := "(IIIII)I" } : Jvm.MethodName)) ∈ lw_all := lw_g (lw_at lw_m2 199 rfl) rfl
theorem q535 : (Jvm.Cond.code ({ cls := "RainWheel", name := "feed", desc := "(IIIII)I" } : Jvm.MethodName) prog_1_method_10_code (8 : Nat) (Option.some Jvm.ClassFile.FieldType.int)) ∈ lw_all := lw_g (lw_at lw_m2 200 rfl) rfl
theorem q537 : (Jvm.Cond.instanceMethod ({ cls := "RainWheel", name := "fault", desc := "()I" } : Jvm.MethodName)) ∈ lw_all := lw_g (lw_at lw_m2 202 rfl) rfl
theorem q538 : (Jvm.Cond.selects "RainWheel" ({ cls := "RainWheel", name := "fault", desc := "()I" } : Jvm.MethodName) ({ cls := "RainWheel", name := "fault", desc := "()I" } : Jvm.MethodName)) ∈ lw_all := lw_g (lw_at lw_m2 203 rfl) rfl
theorem q539 : (Jvm.Cond.code ({ cls := "RainWheel", name := "fault", desc := "()I" } : Jvm.MethodName) prog_1_method_17_code (1 : Nat) (Option.some Jvm.ClassFile.FieldType.int)) ∈ lw_all := lw_g (lw_at lw_m2 204 rfl) rfl
theorem q541 : (Jvm.Cond.instanceMethod ({ cls := "RainWheel", name := "span", desc := "()I" } : Jvm.MethodName)) ∈ lw_all := lw_g (lw_at lw_m2 206 rfl) rfl
theorem q542 : (Jvm.Cond.selects "RainWheel" ({ cls := "RainWheel", name := "span", desc := "()I" } : Jvm.MethodName) ({ cls := "RainWheel", name := "span", desc := "()I" } : Jvm.MethodName)) ∈ lw_all := lw_g (lw_at lw_m2 207 rfl) rfl
theorem q543 : (Jvm.Cond.code ({ cls := "RainWheel", name := "span", desc := "()I" } : Jvm.MethodName) prog_1_method_26_code (1 : Nat) (Option.some Jvm.ClassFile.FieldType.int)) ∈ lw_all := lw_g (lw_at lw_m2 208 rfl) rfl
theorem q544 : (Jvm.Cond.methodLink "RainWheel" (276 : Nat) ({ cls := "RainWheel", name := "gone", desc := "()LRainWheel$Watch;" } : Jvm.MethodName)) ∈ lw_all := lw_g (lw_at lw_m2 209 rfl) rfl
theorem q545 : (Jvm.Cond.privateMethod ({ cls := "RainWheel", name := "gone", desc := "()LRainWheel$Watch;" } : Jvm.MethodName)) ∈ lw_tbl := lw_at lw_m2 210 rfl
theorem q546 : (Jvm.Cond.instanceMethod ({ cls := "RainWheel", name := "gone", desc := "()LRainWheel$Watch;" } : Jvm.MethodName)) ∈ lw_all := lw_g (lw_at lw_m2 211 rfl) rfl
theorem q547 : (Jvm.Cond.code ({ cls := "RainWheel", name := "gone", desc := "()LRainWheel$Watch;" } : Jvm.MethodName) prog_1_method_24_code (1 : Nat) (Option.some (Jvm.ClassFile.FieldType.object "RainWheel$Watch"))) ∈ lw_all := lw_g (lw_at lw_m2 212 rfl) rfl
theorem q548 : (Jvm.Cond.methodLink "RainWheel" (265 : Nat) ({ cls := "RainWheel$Watch", name := "starts", desc := "(LRainWheel$Road;)LRainWheel$Watch;" } : Jvm.MethodName)) ∈ lw_all := lw_g (lw_at lw_m2 213 rfl) rfl
theorem q552 : (Jvm.Cond.methodLink "RainWheel" (269 : Nat) ({ cls := "RainWheel$Watch", name := "goes", desc := "(LRainWheel$Plan;)LRainWheel$Watch;" } : Jvm.MethodName)) ∈ lw_all := lw_g (lw_at lw_m2 217 rfl) rfl
theorem q643 : (Jvm.Cond.instanceMethod ({ cls := "RainWheel", name := "umbrella", desc := "()I" } : Jvm.MethodName)) ∈ lw_all := lw_g (lw_at lw_m3 68 rfl) rfl
theorem q644 : (Jvm.Cond.selects "RainWheel" ({ cls := "RainWheel", name := "umbrella", desc := "()I" } : Jvm.MethodName) ({ cls := "RainWheel", name := "umbrella", desc := "()I" } : Jvm.MethodName)) ∈ lw_all := lw_g (lw_at lw_m3 69 rfl) rfl
theorem q645 : (Jvm.Cond.code ({ cls := "RainWheel", name := "umbrella", desc := "()I" } : Jvm.MethodName) prog_1_method_29_code (3 : Nat) (Option.some Jvm.ClassFile.FieldType.int)) ∈ lw_all := lw_g (lw_at lw_m3 70 rfl) rfl
theorem q647 : (Jvm.Cond.instanceMethod ({ cls := "RainWheel", name := "urgent", desc := "()I" } : Jvm.MethodName)) ∈ lw_all := lw_g (lw_at lw_m3 72 rfl) rfl
theorem q648 : (Jvm.Cond.selects "RainWheel" ({ cls := "RainWheel", name := "urgent", desc := "()I" } : Jvm.MethodName) ({ cls := "RainWheel", name := "urgent", desc := "()I" } : Jvm.MethodName)) ∈ lw_all := lw_g (lw_at lw_m3 73 rfl) rfl
theorem q649 : (Jvm.Cond.code ({ cls := "RainWheel", name := "urgent", desc := "()I" } : Jvm.MethodName) prog_1_method_32_code (3 : Nat) (Option.some Jvm.ClassFile.FieldType.int)) ∈ lw_all := lw_g (lw_at lw_m3 74 rfl) rfl
theorem q650 : (Jvm.Cond.methodLink "RainWheel" (308 : Nat) ({ cls := "RainWheel", name := "slackOf", desc := "(I)I" } : Jvm.MethodName)) ∈ lw_all := lw_g (lw_at lw_m3 75 rfl) rfl
theorem q651 : (Jvm.Cond.privateMethod ({ cls := "RainWheel", name := "slackOf", desc := "(I)I" } : Jvm.MethodName)) ∈ lw_tbl := lw_at lw_m3 76 rfl
theorem q652 : (Jvm.Cond.instanceMethod ({ cls := "RainWheel", name := "slackOf", desc := "(I)I" } : Jvm.MethodName)) ∈ lw_all := lw_g (lw_at lw_m3 77 rfl) rfl
theorem q653 : (Jvm.Cond.code ({ cls := "RainWheel", name := "slackOf", desc := "(I)I" } : Jvm.MethodName) prog_1_method_30_code (5 : Nat) (Option.some Jvm.ClassFile.FieldType.int)) ∈ lw_all := lw_g (lw_at lw_m3 78 rfl) rfl
theorem q654 : (Jvm.Cond.methodLink "RainWheel" (301 : Nat) ({ cls := "RainWheel$Plan", name := "lineOf", desc := "(I)I" } : Jvm.MethodName)) ∈ lw_all := lw_g (lw_at lw_m3 79 rfl) rfl
theorem q658 : (Jvm.Cond.methodLink "RainWheel" (304 : Nat) ({ cls := "RainWheel$Watch", name := "longer", desc := "(II)LRainWheel$Watch;" } : Jvm.MethodName)) ∈ lw_all := lw_g (lw_at lw_m3 83 rfl) rfl
theorem q663 : (Jvm.Cond.instanceMethod ({ cls := "RainWheel", name := "likeliest", desc := "()I" } : Jvm.MethodName)) ∈ lw_all := lw_g (lw_at lw_m3 88 rfl) rfl
theorem q664 : (Jvm.Cond.selects "RainWheel" ({ cls := "RainWheel", name := "likeliest", desc := "()I" } : Jvm.MethodName) ({ cls := "RainWheel", name := "likeliest", desc := "()I" } : Jvm.MethodName)) ∈ lw_all := lw_g (lw_at lw_m3 89 rfl) rfl
theorem q665 : (Jvm.Cond.code ({ cls := "RainWheel", name := "likeliest", desc := "()I" } : Jvm.MethodName) prog_1_method_57_code (3 : Nat) (Option.some Jvm.ClassFile.FieldType.int)) ∈ lw_all := lw_g (lw_at lw_m3 90 rfl) rfl
theorem q666 : (Jvm.Cond.methodLink "RainWheel" (407 : Nat) ({ cls := "RainWheel", name := "weight", desc := "(III)I" } : Jvm.MethodName)) ∈ lw_all := lw_g (lw_at lw_m3 91 rfl) rfl
theorem q667 : (Jvm.Cond.privateMethod ({ cls := "RainWheel", name := "weight", desc := "(III)I" } : Jvm.MethodName)) ∈ lw_tbl := lw_at lw_m3 92 rfl
theorem q668 : (Jvm.Cond.instanceMethod ({ cls := "RainWheel", name := "weight", desc := "(III)I" } : Jvm.MethodName)) ∈ lw_all := lw_g (lw_at lw_m3 93 rfl) rfl
theorem q669 : (Jvm.Cond.code ({ cls := "RainWheel", name := "weight", desc := "(III)I" } : Jvm.MethodName) prog_1_method_55_code (7 : Nat) (Option.some Jvm.ClassFile.FieldType.int)) ∈ lw_all := lw_g (lw_at lw_m3 94 rfl) rfl
theorem q671 : (Jvm.Cond.instanceMethod ({ cls := "RainWheel", name := "ask", desc := "()I" } : Jvm.MethodName)) ∈ lw_all := lw_g (lw_at lw_m3 96 rfl) rfl
theorem q672 : (Jvm.Cond.selects "RainWheel" ({ cls := "RainWheel", name := "ask", desc := "()I" } : Jvm.MethodName) ({ cls := "RainWheel", name := "ask", desc := "()I" } : Jvm.MethodName)) ∈ lw_all := lw_g (lw_at lw_m3 97 rfl) rfl
theorem q673 : (Jvm.Cond.code ({ cls := "RainWheel", name := "ask", desc := "()I" } : Jvm.MethodName) prog_1_method_59_code (5 : Nat) (Option.some Jvm.ClassFile.FieldType.int)) ∈ lw_all := lw_g (lw_at lw_m3 98 rfl) rfl
theorem q674 : (Jvm.Cond.methodLink "RainWheel" (410 : Nat) ({ cls := "RainWheel", name := "greatest", desc := "(II)I" } : Jvm.MethodName)) ∈ lw_all := lw_g (lw_at lw_m3 99 rfl) rfl
theorem q675 : (Jvm.Cond.privateMethod ({ cls := "RainWheel", name := "greatest", desc := "(II)I" } : Jvm.MethodName)) ∈ lw_tbl := lw_at lw_m3 100 rfl
theorem q676 : (Jvm.Cond.instanceMethod ({ cls := "RainWheel", name := "greatest", desc := "(II)I" } : Jvm.MethodName)) ∈ lw_all := lw_g (lw_at lw_m3 101 rfl) rfl
theorem q677 : (Jvm.Cond.code ({ cls := "RainWheel", name := "greatest", desc := "(II)I" } : Jvm.MethodName) prog_1_method_58_code (5 : Nat) (Option.some Jvm.ClassFile.FieldType.int)) ∈ lw_all := lw_g (lw_at lw_m3 102 rfl) rfl
theorem q678 : (Jvm.Cond.methodLink "RainWheel" (351 : Nat) ({ cls := "java/lang/Math", name := "max", desc := "(II)I" } : Jvm.MethodName)) ∈ lw_all := lw_g (lw_at lw_m3 103 rfl) rfl
theorem q680 : (Jvm.Cond.instanceMethod ({ cls := "RainWheel", name := "undo", desc := "()I" } : Jvm.MethodName)) ∈ lw_all := lw_g (lw_at lw_m3 105 rfl) rfl
theorem q681 : (Jvm.Cond.selects "RainWheel" ({ cls := "RainWheel", name := "undo", desc := "()I" } : Jvm.MethodName) ({ cls := "RainWheel", name := "undo", desc := "()I" } : Jvm.MethodName)) ∈ lw_all := lw_g (lw_at lw_m3 106 rfl) rfl
theorem q682 : (Jvm.Cond.code ({ cls := "RainWheel", name := "undo", desc := "()I" } : Jvm.MethodName) prog_1_method_67_code (1 : Nat) (Option.some Jvm.ClassFile.FieldType.int)) ∈ lw_all := lw_g (lw_at lw_m3 107 rfl) rfl
theorem q683 : (Jvm.Cond.methodLink "RainWheel" (172 : Nat) ({ cls := "RainWheel$Plan", name := "as", desc := "(LRainWheel$Plan;)LRainWheel$Plan;" } : Jvm.MethodName)) ∈ lw_all := lw_g (lw_at lw_m3 108 rfl) rfl
theorem q691 : (Jvm.Cond.instanceMethod ({ cls := "RainWheel", name := "image", desc := "()I" } : Jvm.MethodName)) ∈ lw_all := lw_g (lw_at lw_m3 116 rfl) rfl
theorem q692 : (Jvm.Cond.selects "RainWheel" ({ cls := "RainWheel", name := "image", desc := "()I" } : Jvm.MethodName) ({ cls := "RainWheel", name := "image", desc := "()I" } : Jvm.MethodName)) ∈ lw_all := lw_g (lw_at lw_m3 117 rfl) rfl
theorem q693 : (Jvm.Cond.code ({ cls := "RainWheel", name := "image", desc := "()I" } : Jvm.MethodName) prog_1_method_68_code (2 : Nat) (Option.some Jvm.ClassFile.FieldType.int)) ∈ lw_all := lw_g (lw_at lw_m3 118 rfl) rfl
theorem q695 : (Jvm.Cond.instanceMethod ({ cls := "RainWheel", name := "restore", desc := "()I" } : Jvm.MethodName)) ∈ lw_all := lw_g (lw_at lw_m3 120 rfl) rfl
theorem q696 : (Jvm.Cond.selects "RainWheel" ({ cls := "RainWheel", name := "restore", desc := "()I" } : Jvm.MethodName) ({ cls := "RainWheel", name := "restore", desc := "()I" } : Jvm.MethodName)) ∈ lw_all := lw_g (lw_at lw_m3 121 rfl) rfl
theorem q697 : (Jvm.Cond.code ({ cls := "RainWheel", name := "restore", desc := "()I" } : Jvm.MethodName) prog_1_method_69_code (2 : Nat) (Option.some Jvm.ClassFile.FieldType.int)) ∈ lw_all := lw_g (lw_at lw_m3 122 rfl) rfl
theorem q699 : (Jvm.Cond.instanceMethod ({ cls := "RainWheel", name := "status", desc := "(I)I" } : Jvm.MethodName)) ∈ lw_all := lw_g (lw_at lw_m3 124 rfl) rfl
theorem q700 : (Jvm.Cond.selects "RainWheel" ({ cls := "RainWheel", name := "status", desc := "(I)I" } : Jvm.MethodName) ({ cls := "RainWheel", name := "status", desc := "(I)I" } : Jvm.MethodName)) ∈ lw_all := lw_g (lw_at lw_m3 125 rfl) rfl
theorem q701 : (Jvm.Cond.code ({ cls := "RainWheel", name := "status", desc := "(I)I" } : Jvm.MethodName) prog_1_method_70_code (2 : Nat) (Option.some Jvm.ClassFile.FieldType.int)) ∈ lw_all := lw_g (lw_at lw_m3 126 rfl) rfl
theorem q703 : (Jvm.Cond.instanceMethod ({ cls := "RainWheel", name := "count", desc := "(I)I" } : Jvm.MethodName)) ∈ lw_all := lw_g (lw_at lw_m3 128 rfl) rfl
theorem q704 : (Jvm.Cond.selects "RainWheel" ({ cls := "RainWheel", name := "count", desc := "(I)I" } : Jvm.MethodName) ({ cls := "RainWheel", name := "count", desc := "(I)I" } : Jvm.MethodName)) ∈ lw_all := lw_g (lw_at lw_m3 129 rfl) rfl
theorem q705 : (Jvm.Cond.code ({ cls := "RainWheel", name := "count", desc := "(I)I" } : Jvm.MethodName) prog_1_method_71_code (2 : Nat) (Option.some Jvm.ClassFile.FieldType.int)) ∈ lw_all := lw_g (lw_at lw_m3 130 rfl) rfl
theorem q711 : (Jvm.Cond.instanceMethod ({ cls := "RainWheel", name := "road", desc := "(I)I" } : Jvm.MethodName)) ∈ lw_all := lw_g (lw_at lw_m3 136 rfl) rfl
theorem q712 : (Jvm.Cond.selects "RainWheel" ({ cls := "RainWheel", name := "road", desc := "(I)I" } : Jvm.MethodName) ({ cls := "RainWheel", name := "road", desc := "(I)I" } : Jvm.MethodName)) ∈ lw_all := lw_g (lw_at lw_m3 137 rfl) rfl
theorem q713 : (Jvm.Cond.codeWith ({ cls := "RainWheel", name := "road", desc := "(I)I" } : Jvm.MethodName) prog_1_method_13_code (3 : Nat) (Option.some Jvm.ClassFile.FieldType.int) [((10 : Nat), (29 : Nat), (32 : Nat), (118 : Nat))]) ∈ lw_all := lw_g (lw_at lw_m3 138 rfl) rfl
theorem q714 : (Jvm.Cond.classLink "RainWheel" (118 : Nat) "RainWheel$Wrong") ∈ lw_all := lw_g (lw_at lw_m3 139 rfl) rfl
theorem q715 : (Jvm.Cond.methodLink "RainWheel" (125 : Nat) ({ cls := "RainWheel", name := "within", desc := "(III)V" } : Jvm.MethodName)) ∈ lw_all := lw_g (lw_at lw_m3 140 rfl) rfl
theorem q716 : (Jvm.Cond.privateMethod ({ cls := "RainWheel", name := "within", desc := "(III)V" } : Jvm.MethodName)) ∈ lw_tbl := lw_at lw_m3 141 rfl
theorem q717 : (Jvm.Cond.instanceMethod ({ cls := "RainWheel", name := "within", desc := "(III)V" } : Jvm.MethodName)) ∈ lw_all := lw_g (lw_at lw_m3 142 rfl) rfl
theorem q718 : (Jvm.Cond.code ({ cls := "RainWheel", name := "within", desc := "(III)V" } : Jvm.MethodName) prog_1_method_8_code (4 : Nat) (Option.none : Option Jvm.ClassFile.FieldType)) ∈ lw_all := lw_g (lw_at lw_m3 143 rfl) rfl
theorem q719 : (Jvm.Cond.classLink "RainWheel" (103 : Nat) "java/lang/IllegalArgumentException") ∈ lw_all := lw_g (lw_at lw_m3 144 rfl) rfl
theorem q761 : (Jvm.Cond.methodLink "RainWheel" (105 : Nat) ({ cls := "java/lang/IllegalArgumentException", name := "<init>", desc := "()V" } : Jvm.MethodName)) ∈ lw_all := lw_g (lw_at lw_m3 186 rfl) rfl
theorem q784 : (Jvm.Cond.classLink "RainWheel" (129 : Nat) "RainWheel$RoadReader") ∈ lw_all := lw_g (lw_at lw_m3 209 rfl) rfl
theorem q786 : (Jvm.Cond.methodLink "RainWheel" (131 : Nat) ({ cls := "RainWheel", name := "reader", desc := "(I)LRainWheel$Reader;" } : Jvm.MethodName)) ∈ lw_all := lw_g (lw_at lw_m3 211 rfl) rfl
theorem q787 : (Jvm.Cond.privateMethod ({ cls := "RainWheel", name := "reader", desc := "(I)LRainWheel$Reader;" } : Jvm.MethodName)) ∈ lw_tbl := lw_at lw_m3 212 rfl
theorem q788 : (Jvm.Cond.instanceMethod ({ cls := "RainWheel", name := "reader", desc := "(I)LRainWheel$Reader;" } : Jvm.MethodName)) ∈ lw_all := lw_g (lw_at lw_m3 213 rfl) rfl
theorem q789 : (Jvm.Cond.code ({ cls := "RainWheel", name := "reader", desc := "(I)LRainWheel$Reader;" } : Jvm.MethodName) prog_1_method_11_code (2 : Nat) (Option.some (Jvm.ClassFile.FieldType.object "RainWheel$Reader"))) ∈ lw_all := lw_g (lw_at lw_m3 214 rfl) rfl
theorem q790 : (Jvm.Cond.classLink "RainWheel" (112 : Nat) "RainWheel$Reader") ∈ lw_all := lw_g (lw_at lw_m3 215 rfl) rfl
theorem q792 : (Jvm.Cond.methodLink "RainWheel" (114 : Nat) ({ cls := "RainWheel$Reader", name := "<init>", desc := "([BI)V" } : Jvm.MethodName)) ∈ lw_all := lw_g (lw_at lw_m3 217 rfl) rfl
theorem q809 : (Jvm.Cond.methodLink "RainWheel" (135 : Nat) ({ cls := "RainWheel$RoadReader", name := "<init>", desc := "(LRainWheel$Reader;)V" } : Jvm.MethodName)) ∈ lw_all := lw_g (lw_at lw_m3 234 rfl) rfl
theorem q842 : (Jvm.Cond.methodLink "RainWheel" (138 : Nat) ({ cls := "RainWheel$RoadReader", name := "reads", desc := "()LRainWheel$Road;" } : Jvm.MethodName)) ∈ lw_all := lw_g (lw_at lw_m4 27 rfl) rfl
theorem q942 : (Jvm.Cond.fieldLinkNest "RainWheel" (122 : Nat) "RainWheel$Wrong" "why" "I" "RainWheel") ∈ lw_tbl := lw_at lw_m4 127 rfl
theorem q944 : (Jvm.Cond.fieldLinkNest "RainWheel" (117 : Nat) "RainWheel$Wrong" "where" "I" "RainWheel") ∈ lw_tbl := lw_at lw_m4 129 rfl
theorem q986 : (Jvm.Cond.methodLink "RainWheel" (142 : Nat) ({ cls := "RainWheel", name := "faulty", desc := "(LRainWheel$Wrong;)I" } : Jvm.MethodName)) ∈ lw_all := lw_g (lw_at lw_m4 171 rfl) rfl
theorem q987 : (Jvm.Cond.privateMethod ({ cls := "RainWheel", name := "faulty", desc := "(LRainWheel$Wrong;)I" } : Jvm.MethodName)) ∈ lw_tbl := lw_at lw_m4 172 rfl
theorem q988 : (Jvm.Cond.instanceMethod ({ cls := "RainWheel", name := "faulty", desc := "(LRainWheel$Wrong;)I" } : Jvm.MethodName)) ∈ lw_all := lw_g (lw_at lw_m4 173 rfl) rfl
theorem q989 : (Jvm.Cond.code ({ cls := "RainWheel", name := "faulty", desc := "(LRainWheel$Wrong;)I" } : Jvm.MethodName) prog_1_method_12_code (2 : Nat) (Option.some Jvm.ClassFile.FieldType.int)) ∈ lw_all := lw_g (lw_at lw_m4 174 rfl) rfl
theorem q994 : (Jvm.Cond.instanceMethod ({ cls := "RainWheel", name := "law", desc := "(I)I" } : Jvm.MethodName)) ∈ lw_all := lw_g (lw_at lw_m4 179 rfl) rfl
theorem q995 : (Jvm.Cond.selects "RainWheel" ({ cls := "RainWheel", name := "law", desc := "(I)I" } : Jvm.MethodName) ({ cls := "RainWheel", name := "law", desc := "(I)I" } : Jvm.MethodName)) ∈ lw_all := lw_g (lw_at lw_m4 180 rfl) rfl
theorem q996 : (Jvm.Cond.codeWith ({ cls := "RainWheel", name := "law", desc := "(I)I" } : Jvm.MethodName) prog_1_method_14_code (3 : Nat) (Option.some Jvm.ClassFile.FieldType.int) [((16 : Nat), (38 : Nat), (41 : Nat), (118 : Nat))]) ∈ lw_all := lw_g (lw_at lw_m4 181 rfl) rfl
theorem q997 : (Jvm.Cond.methodLink "RainWheel" (157 : Nat) ({ cls := "java/lang/Math", name := "min", desc := "(II)I" } : Jvm.MethodName)) ∈ lw_all := lw_g (lw_at lw_m4 182 rfl) rfl
theorem q998 : (Jvm.Cond.classLink "RainWheel" (163 : Nat) "RainWheel$LawReader") ∈ lw_all := lw_g (lw_at lw_m4 183 rfl) rfl
theorem q1000 : (Jvm.Cond.methodLink "RainWheel" (165 : Nat) ({ cls := "RainWheel$LawReader", name := "<init>", desc := "(LRainWheel$Reader;)V" } : Jvm.MethodName)) ∈ lw_all := lw_g (lw_at lw_m4 185 rfl) rfl
theorem q1018 : (Jvm.Cond.methodLink "RainWheel" (166 : Nat) ({ cls := "RainWheel$LawReader", name := "reads", desc := "()LRainWheel$Term;" } : Jvm.MethodName)) ∈ lw_all := lw_g (lw_at lw_m4 203 rfl) rfl
theorem q1098 : (Jvm.Cond.instanceMethod ({ cls := "RainWheel", name := "plan", desc := "(I)I" } : Jvm.MethodName)) ∈ lw_all := lw_g (lw_at lw_m5 43 rfl) rfl
theorem q1099 : (Jvm.Cond.selects "RainWheel" ({ cls := "RainWheel", name := "plan", desc := "(I)I" } : Jvm.MethodName) ({ cls := "RainWheel", name := "plan", desc := "(I)I" } : Jvm.MethodName)) ∈ lw_all := lw_g (lw_at lw_m5 44 rfl) rfl
theorem q1100 : (Jvm.Cond.codeWith ({ cls := "RainWheel", name := "plan", desc := "(I)I" } : Jvm.MethodName) prog_1_method_15_code (4 : Nat) (Option.some Jvm.ClassFile.FieldType.int) [((24 : Nat), (37 : Nat), (40 : Nat), (118 : Nat))]) ∈ lw_all := lw_g (lw_at lw_m5 45 rfl) rfl
theorem q1101 : (Jvm.Cond.methodLink "RainWheel" (169 : Nat) ({ cls := "RainWheel$Plan", name := "reads", desc := "(LRainWheel$Reader;LRainWheel$Road;)V" } : Jvm.MethodName)) ∈ lw_all := lw_g (lw_at lw_m5 46 rfl) rfl
theorem q1116 : (Jvm.Cond.instanceMethod ({ cls := "RainWheel", name := "book", desc := "(I)I" } : Jvm.MethodName)) ∈ lw_all := lw_g (lw_at lw_m5 61 rfl) rfl
theorem q1117 : (Jvm.Cond.selects "RainWheel" ({ cls := "RainWheel", name := "book", desc := "(I)I" } : Jvm.MethodName) ({ cls := "RainWheel", name := "book", desc := "(I)I" } : Jvm.MethodName)) ∈ lw_all := lw_g (lw_at lw_m5 62 rfl) rfl
theorem q1118 : (Jvm.Cond.codeWith ({ cls := "RainWheel", name := "book", desc := "(I)I" } : Jvm.MethodName) prog_1_method_16_code (8 : Nat) (Option.some Jvm.ClassFile.FieldType.int) [((33 : Nat), (112 : Nat), (115 : Nat), (118 : Nat))]) ∈ lw_all := lw_g (lw_at lw_m5 63 rfl) rfl
theorem q1119 : (Jvm.Cond.methodLink "RainWheel" (176 : Nat) ({ cls := "RainWheel$Reader", name := "now", desc := "()I" } : Jvm.MethodName)) ∈ lw_all := lw_g (lw_at lw_m5 64 rfl) rfl
theorem q1120 : (Jvm.Cond.methodLink "RainWheel" (180 : Nat) ({ cls := "RainWheel$Reader", name := "place", desc := "()I" } : Jvm.MethodName)) ∈ lw_all := lw_g (lw_at lw_m5 65 rfl) rfl
theorem q1121 : (Jvm.Cond.methodLink "RainWheel" (182 : Nat) ({ cls := "RainWheel$Reader", name := "number", desc := "(II)I" } : Jvm.MethodName)) ∈ lw_all := lw_g (lw_at lw_m5 66 rfl) rfl
theorem q1122 : (Jvm.Cond.methodLink "RainWheel" (185 : Nat) ({ cls := "RainWheel$Wrong", name := "<init>", desc := "(II)V" } : Jvm.MethodName)) ∈ lw_all := lw_g (lw_at lw_m5 67 rfl) rfl
theorem q1123 : (Jvm.Cond.methodLink "RainWheel" (187 : Nat) ({ cls := "RainWheel$Reader", name := "sign", desc := "(C)V" } : Jvm.MethodName)) ∈ lw_all := lw_g (lw_at lw_m5 68 rfl) rfl
theorem q1124 : (Jvm.Cond.methodLink "RainWheel" (191 : Nat) ({ cls := "java/lang/System", name := "arraycopy", desc := "(Ljava/lang/Object;ILjava/lang/Object;II)V" } : Jvm.MethodName)) ∈ lw_all := lw_g (lw_at lw_m5 69 rfl) rfl
theorem q1129 : (Jvm.Cond.instanceMethod ({ cls := "RainWheel", name := "told", desc := "(I)I" } : Jvm.MethodName)) ∈ lw_all := lw_g (lw_at lw_m5 74 rfl) rfl
theorem q1130 : (Jvm.Cond.selects "RainWheel" ({ cls := "RainWheel", name := "told", desc := "(I)I" } : Jvm.MethodName) ({ cls := "RainWheel", name := "told", desc := "(I)I" } : Jvm.MethodName)) ∈ lw_all := lw_g (lw_at lw_m5 75 rfl) rfl
theorem q1131 : (Jvm.Cond.code ({ cls := "RainWheel", name := "told", desc := "(I)I" } : Jvm.MethodName) prog_1_method_18_code (2 : Nat) (Option.some Jvm.ClassFile.FieldType.int)) ∈ lw_all := lw_g (lw_at lw_m5 76 rfl) rfl
theorem q1137 : (Jvm.Cond.instanceMethod ({ cls := "RainWheel", name := "deed", desc := "(II)I" } : Jvm.MethodName)) ∈ lw_all := lw_g (lw_at lw_m5 82 rfl) rfl
theorem q1138 : (Jvm.Cond.selects "RainWheel" ({ cls := "RainWheel", name := "deed", desc := "(II)I" } : Jvm.MethodName) ({ cls := "RainWheel", name := "deed", desc := "(II)I" } : Jvm.MethodName)) ∈ lw_all := lw_g (lw_at lw_m5 83 rfl) rfl
theorem q1139 : (Jvm.Cond.code ({ cls := "RainWheel", name := "deed", desc := "(II)I" } : Jvm.MethodName) prog_1_method_19_code (3 : Nat) (Option.some Jvm.ClassFile.FieldType.int)) ∈ lw_all := lw_g (lw_at lw_m5 84 rfl) rfl
theorem q1140 : (Jvm.Cond.methodLink "RainWheel" (212 : Nat) ({ cls := "RainWheel", name := "deedOf", desc := "(I)V" } : Jvm.MethodName)) ∈ lw_all := lw_g (lw_at lw_m5 85 rfl) rfl
theorem q1141 : (Jvm.Cond.privateMethod ({ cls := "RainWheel", name := "deedOf", desc := "(I)V" } : Jvm.MethodName)) ∈ lw_tbl := lw_at lw_m5 86 rfl
theorem q1142 : (Jvm.Cond.instanceMethod ({ cls := "RainWheel", name := "deedOf", desc := "(I)V" } : Jvm.MethodName)) ∈ lw_all := lw_g (lw_at lw_m5 87 rfl) rfl
theorem q1143 : (Jvm.Cond.code ({ cls := "RainWheel", name := "deedOf", desc := "(I)V" } : Jvm.MethodName) prog_1_method_5_code (2 : Nat) (Option.none : Option Jvm.ClassFile.FieldType)) ∈ lw_all := lw_g (lw_at lw_m5 88 rfl) rfl
theorem q1144 : (Jvm.Cond.methodLink "RainWheel" (93 : Nat) ({ cls := "RainWheel", name := "isThere", desc := "(II)V" } : Jvm.MethodName)) ∈ lw_all := lw_g (lw_at lw_m5 89 rfl) rfl
theorem q1145 : (Jvm.Cond.privateMethod ({ cls := "RainWheel", name := "isThere", desc := "(II)V" } : Jvm.MethodName)) ∈ lw_tbl := lw_at lw_m5 90 rfl
theorem q1146 : (Jvm.Cond.instanceMethod ({ cls := "RainWheel", name := "isThere", desc := "(II)V" } : Jvm.MethodName)) ∈ lw_all := lw_g (lw_at lw_m5 91 rfl) rfl
theorem q1147 : (Jvm.Cond.code ({ cls := "RainWheel", name := "isThere", desc := "(II)V" } : Jvm.MethodName) prog_1_method_4_code (3 : Nat) (Option.none : Option Jvm.ClassFile.FieldType)) ∈ lw_all := lw_g (lw_at lw_m5 92 rfl) rfl
theorem q1148 : (Jvm.Cond.classLink "RainWheel" (87 : Nat) "java/util/NoSuchElementException") ∈ lw_all := lw_g (lw_at lw_m5 93 rfl) rfl
theorem q1157 : (Jvm.Cond.methodLink "RainWheel" (89 : Nat) ({ cls := "java/util/NoSuchElementException", name := "<init>", desc := "()V" } : Jvm.MethodName)) ∈ lw_all := lw_g (lw_at lw_m5 102 rfl) rfl
theorem q1167 : (Jvm.Cond.instanceMethod ({ cls := "RainWheel", name := "strong", desc := "(I)I" } : Jvm.MethodName)) ∈ lw_all := lw_g (lw_at lw_m5 112 rfl) rfl
theorem q1168 : (Jvm.Cond.selects "RainWheel" ({ cls := "RainWheel", name := "strong", desc := "(I)I" } : Jvm.MethodName) ({ cls := "RainWheel", name := "strong", desc := "(I)I" } : Jvm.MethodName)) ∈ lw_all := lw_g (lw_at lw_m5 113 rfl) rfl
theorem q1169 : (Jvm.Cond.code ({ cls := "RainWheel", name := "strong", desc := "(I)I" } : Jvm.MethodName) prog_1_method_20_code (2 : Nat) (Option.some Jvm.ClassFile.FieldType.int)) ∈ lw_all := lw_g (lw_at lw_m5 114 rfl) rfl
theorem q1170 : (Jvm.Cond.methodLink "RainWheel" (231 : Nat) ({ cls := "RainWheel", name := "personOf", desc := "(I)V" } : Jvm.MethodName)) ∈ lw_all := lw_g (lw_at lw_m5 115 rfl) rfl
theorem q1171 : (Jvm.Cond.privateMethod ({ cls := "RainWheel", name := "personOf", desc := "(I)V" } : Jvm.MethodName)) ∈ lw_tbl := lw_at lw_m5 116 rfl
theorem q1172 : (Jvm.Cond.instanceMethod ({ cls := "RainWheel", name := "personOf", desc := "(I)V" } : Jvm.MethodName)) ∈ lw_all := lw_g (lw_at lw_m5 117 rfl) rfl
theorem q1173 : (Jvm.Cond.code ({ cls := "RainWheel", name := "personOf", desc := "(I)V" } : Jvm.MethodName) prog_1_method_6_code (2 : Nat) (Option.none : Option Jvm.ClassFile.FieldType)) ∈ lw_all := lw_g (lw_at lw_m5 118 rfl) rfl
theorem q1178 : (Jvm.Cond.instanceMethod ({ cls := "RainWheel", name := "bears", desc := "(I)I" } : Jvm.MethodName)) ∈ lw_all := lw_g (lw_at lw_m5 123 rfl) rfl
theorem q1179 : (Jvm.Cond.selects "RainWheel" ({ cls := "RainWheel", name := "bears", desc := "(I)I" } : Jvm.MethodName) ({ cls := "RainWheel", name := "bears", desc := "(I)I" } : Jvm.MethodName)) ∈ lw_all := lw_g (lw_at lw_m5 124 rfl) rfl
theorem q1180 : (Jvm.Cond.code ({ cls := "RainWheel", name := "bears", desc := "(I)I" } : Jvm.MethodName) prog_1_method_21_code (2 : Nat) (Option.some Jvm.ClassFile.FieldType.int)) ∈ lw_all := lw_g (lw_at lw_m5 125 rfl) rfl
theorem q1185 : (Jvm.Cond.instanceMethod ({ cls := "RainWheel", name := "rains", desc := "(I)Z" } : Jvm.MethodName)) ∈ lw_all := lw_g (lw_at lw_m5 130 rfl) rfl
theorem q1186 : (Jvm.Cond.selects "RainWheel" ({ cls := "RainWheel", name := "rains", desc := "(I)Z" } : Jvm.MethodName) ({ cls := "RainWheel", name := "rains", desc := "(I)Z" } : Jvm.MethodName)) ∈ lw_all := lw_g (lw_at lw_m5 131 rfl) rfl
theorem q1187 : (Jvm.Cond.code ({ cls := "RainWheel", name := "rains", desc := "(I)Z" } : Jvm.MethodName) prog_1_method_22_code (2 : Nat) (Option.some Jvm.ClassFile.FieldType.boolean)) ∈ lw_all := lw_g (lw_at lw_m5 132 rfl) rfl
theorem q1188 : (Jvm.Cond.methodLink "RainWheel" (240 : Nat) ({ cls := "RainWheel$Road", name := "isRain", desc := "(I)Z" } : Jvm.MethodName)) ∈ lw_all := lw_g (lw_at lw_m5 133 rfl) rfl
theorem q1193 : (Jvm.Cond.instanceMethod ({ cls := "RainWheel", name := "would", desc := "(IIIIII)I" } : Jvm.MethodName)) ∈ lw_all := lw_g (lw_at lw_m5 138 rfl) rfl
theorem q1194 : (Jvm.Cond.selects "RainWheel" ({ cls := "RainWheel", name := "would", desc := "(IIIIII)I" } : Jvm.MethodName) ({ cls := "RainWheel", name := "would", desc := "(IIIIII)I" } : Jvm.MethodName)) ∈ lw_all := lw_g (lw_at lw_m5 139 rfl) rfl
theorem q1195 : (Jvm.Cond.code ({ cls := "RainWheel", name := "would", desc := "(IIIIII)I" } : Jvm.MethodName) prog_1_method_23_code (8 : Nat) (Option.some Jvm.ClassFile.FieldType.int)) ∈ lw_all := lw_g (lw_at lw_m5 140 rfl) rfl
theorem q1196 : (Jvm.Cond.classLink "RainWheel" (244 : Nat) "RainWheel$Sight") ∈ lw_all := lw_g (lw_at lw_m5 141 rfl) rfl
theorem q1197 : (Jvm.Cond.methodLinkNest "RainWheel" (246 : Nat) ({ cls := "RainWheel$Sight", name := "<init>", desc := "()V" } : Jvm.MethodName) "RainWheel") ∈ lw_tbl := lw_at lw_m5 142 rfl
theorem q1198 : (Jvm.Cond.methodLink "RainWheel" (261 : Nat) ({ cls := "RainWheel$Law", name := "lasts", desc := "(LRainWheel$Sight;)I" } : Jvm.MethodName)) ∈ lw_all := lw_g (lw_at lw_m5 143 rfl) rfl
theorem q1203 : (Jvm.Cond.instanceMethod ({ cls := "RainWheel", name := "line", desc := "(II)I" } : Jvm.MethodName)) ∈ lw_all := lw_g (lw_at lw_m5 148 rfl) rfl
theorem q1204 : (Jvm.Cond.selects "RainWheel" ({ cls := "RainWheel", name := "line", desc := "(II)I" } : Jvm.MethodName) ({ cls := "RainWheel", name := "line", desc := "(II)I" } : Jvm.MethodName)) ∈ lw_all := lw_g (lw_at lw_m5 149 rfl) rfl
theorem q1205 : (Jvm.Cond.code ({ cls := "RainWheel", name := "line", desc := "(II)I" } : Jvm.MethodName) prog_1_method_25_code (3 : Nat) (Option.some Jvm.ClassFile.FieldType.int)) ∈ lw_all := lw_g (lw_at lw_m5 150 rfl) rfl
theorem q1206 : (Jvm.Cond.methodLink "RainWheel" (273 : Nat) ({ cls := "RainWheel", name := "lineOf", desc := "(I)V" } : Jvm.MethodName)) ∈ lw_all := lw_g (lw_at lw_m5 151 rfl) rfl
theorem q1207 : (Jvm.Cond.privateMethod ({ cls := "RainWheel", name := "lineOf", desc := "(I)V" } : Jvm.MethodName)) ∈ lw_tbl := lw_at lw_m5 152 rfl
theorem q1208 : (Jvm.Cond.instanceMethod ({ cls := "RainWheel", name := "lineOf", desc := "(I)V" } : Jvm.MethodName)) ∈ lw_all := lw_g (lw_at lw_m5 153 rfl) rfl
theorem q1209 : (Jvm.Cond.code ({ cls := "RainWheel", name := "lineOf", desc := "(I)V" } : Jvm.MethodName) prog_1_method_7_code (2 : Nat) (Option.none : Option Jvm.ClassFile.FieldType)) ∈ lw_all := lw_g (lw_at lw_m5 154 rfl) rfl
theorem q1214 : (Jvm.Cond.instanceMethod ({ cls := "RainWheel", name := "wet", desc := "(I)I" } : Jvm.MethodName)) ∈ lw_all := lw_g (lw_at lw_m5 159 rfl) rfl
theorem q1215 : (Jvm.Cond.selects "RainWheel" ({ cls := "RainWheel", name := "wet", desc := "(I)I" } : Jvm.MethodName) ({ cls := "RainWheel", name := "wet", desc := "(I)I" } : Jvm.MethodName)) ∈ lw_all := lw_g (lw_at lw_m5 160 rfl) rfl
theorem q1216 : (Jvm.Cond.code ({ cls := "RainWheel", name := "wet", desc := "(I)I" } : Jvm.MethodName) prog_1_method_27_code (2 : Nat) (Option.some Jvm.ClassFile.FieldType.int)) ∈ lw_all := lw_g (lw_at lw_m5 161 rfl) rfl
theorem q1221 : (Jvm.Cond.instanceMethod ({ cls := "RainWheel", name := "idle", desc := "(I)I" } : Jvm.MethodName)) ∈ lw_all := lw_g (lw_at lw_m5 166 rfl) rfl
theorem q1222 : (Jvm.Cond.selects "RainWheel" ({ cls := "RainWheel", name := "idle", desc := "(I)I" } : Jvm.MethodName) ({ cls := "RainWheel", name := "idle", desc := "(I)I" } : Jvm.MethodName)) ∈ lw_all := lw_g (lw_at lw_m5 167 rfl) rfl
theorem q1223 : (Jvm.Cond.code ({ cls := "RainWheel", name := "idle", desc := "(I)I" } : Jvm.MethodName) prog_1_method_28_code (2 : Nat) (Option.some Jvm.ClassFile.FieldType.int)) ∈ lw_all := lw_g (lw_at lw_m5 168 rfl) rfl
theorem q1228 : (Jvm.Cond.instanceMethod ({ cls := "RainWheel", name := "slack", desc := "(I)I" } : Jvm.MethodName)) ∈ lw_all := lw_g (lw_at lw_m5 173 rfl) rfl
theorem q1229 : (Jvm.Cond.selects "RainWheel" ({ cls := "RainWheel", name := "slack", desc := "(I)I" } : Jvm.MethodName) ({ cls := "RainWheel", name := "slack", desc := "(I)I" } : Jvm.MethodName)) ∈ lw_all := lw_g (lw_at lw_m5 174 rfl) rfl
theorem q1230 : (Jvm.Cond.code ({ cls := "RainWheel", name := "slack", desc := "(I)I" } : Jvm.MethodName) prog_1_method_31_code (2 : Nat) (Option.some Jvm.ClassFile.FieldType.int)) ∈ lw_all := lw_g (lw_at lw_m5 175 rfl) rfl
theorem q1235 : (Jvm.Cond.instanceMethod ({ cls := "RainWheel", name := "ahead", desc := "(I)I" } : Jvm.MethodName)) ∈ lw_all := lw_g (lw_at lw_m5 180 rfl) rfl
theorem q1236 : (Jvm.Cond.selects "RainWheel" ({ cls := "RainWheel", name := "ahead", desc := "(I)I" } : Jvm.MethodName) ({ cls := "RainWheel", name := "ahead", desc := "(I)I" } : Jvm.MethodName)) ∈ lw_all := lw_g (lw_at lw_m5 181 rfl) rfl
theorem q1237 : (Jvm.Cond.code ({ cls := "RainWheel", name := "ahead", desc := "(I)I" } : Jvm.MethodName) prog_1_method_33_code (2 : Nat) (Option.some Jvm.ClassFile.FieldType.int)) ∈ lw_all := lw_g (lw_at lw_m5 182 rfl) rfl
theorem q1238 : (Jvm.Cond.methodLink "RainWheel" (311 : Nat) ({ cls := "RainWheel$Road", name := "ahead", desc := "(I)I" } : Jvm.MethodName)) ∈ lw_all := lw_g (lw_at lw_m5 183 rfl) rfl
theorem q1246 : (Jvm.Cond.instanceMethod ({ cls := "RainWheel", name := "chain", desc := "(I)I" } : Jvm.MethodName)) ∈ lw_all := lw_g (lw_at lw_m5 191 rfl) rfl
theorem q1247 : (Jvm.Cond.selects "RainWheel" ({ cls := "RainWheel", name := "chain", desc := "(I)I" } : Jvm.MethodName) ({ cls := "RainWheel", name := "chain", desc := "(I)I" } : Jvm.MethodName)) ∈ lw_all := lw_g (lw_at lw_m5 192 rfl) rfl
theorem q1248 : (Jvm.Cond.code ({ cls := "RainWheel", name := "chain", desc := "(I)I" } : Jvm.MethodName) prog_1_method_34_code (2 : Nat) (Option.some Jvm.ClassFile.FieldType.int)) ∈ lw_all := lw_g (lw_at lw_m5 193 rfl) rfl
theorem q1249 : (Jvm.Cond.methodLink "RainWheel" (314 : Nat) ({ cls := "RainWheel$Road", name := "chain", desc := "(I)I" } : Jvm.MethodName)) ∈ lw_all := lw_g (lw_at lw_m5 194 rfl) rfl
theorem q1260 : (Jvm.Cond.instanceMethod ({ cls := "RainWheel", name := "soonest", desc := "(I)I" } : Jvm.MethodName)) ∈ lw_all := lw_g (lw_at lw_m5 205 rfl) rfl
theorem q1261 : (Jvm.Cond.selects "RainWheel" ({ cls := "RainWheel", name := "soonest", desc := "(I)I" } : Jvm.MethodName) ({ cls := "RainWheel", name := "soonest", desc := "(I)I" } : Jvm.MethodName)) ∈ lw_all := lw_g (lw_at lw_m5 206 rfl) rfl
theorem q1262 : (Jvm.Cond.code ({ cls := "RainWheel", name := "soonest", desc := "(I)I" } : Jvm.MethodName) prog_1_method_35_code (2 : Nat) (Option.some Jvm.ClassFile.FieldType.int)) ∈ lw_all := lw_g (lw_at lw_m5 207 rfl) rfl
theorem q1263 : (Jvm.Cond.methodLink "RainWheel" (317 : Nat) ({ cls := "RainWheel", name := "few", desc := "()V" } : Jvm.MethodName)) ∈ lw_all := lw_g (lw_at lw_m5 208 rfl) rfl
theorem q1264 : (Jvm.Cond.privateMethod ({ cls := "RainWheel", name := "few", desc := "()V" } : Jvm.MethodName)) ∈ lw_tbl := lw_at lw_m5 209 rfl
theorem q1265 : (Jvm.Cond.instanceMethod ({ cls := "RainWheel", name := "few", desc := "()V" } : Jvm.MethodName)) ∈ lw_all := lw_g (lw_at lw_m5 210 rfl) rfl
theorem q1266 : (Jvm.Cond.code ({ cls := "RainWheel", name := "few", desc := "()V" } : Jvm.MethodName) prog_1_method_9_code (1 : Nat) (Option.none : Option Jvm.ClassFile.FieldType)) ∈ lw_all := lw_g (lw_at lw_m5 211 rfl) rfl
theorem q1267 : (Jvm.Cond.classLink "RainWheel" (106 : Nat) "java/lang/IllegalStateException") ∈ lw_all := lw_g (lw_at lw_m5 212 rfl) rfl
theorem q1276 : (Jvm.Cond.methodLink "RainWheel" (108 : Nat) ({ cls := "java/lang/IllegalStateException", name := "<init>", desc := "()V" } : Jvm.MethodName)) ∈ lw_all := lw_g (lw_at lw_m5 221 rfl) rfl
theorem q1282 : (Jvm.Cond.methodLink "RainWheel" (320 : Nat) ({ cls := "RainWheel$Soonest", name := "finds", desc := "(LRainWheel$Road;)V" } : Jvm.MethodName)) ∈ lw_all := lw_g (lw_at lw_m5 227 rfl) rfl
theorem q1306 : (Jvm.Cond.instanceMethod ({ cls := "RainWheel", name := "first", desc := "(I)I" } : Jvm.MethodName)) ∈ lw_all := lw_g (lw_at lw_m6 11 rfl) rfl
theorem q1307 : (Jvm.Cond.selects "RainWheel" ({ cls := "RainWheel", name := "first", desc := "(I)I" } : Jvm.MethodName) ({ cls := "RainWheel", name := "first", desc := "(I)I" } : Jvm.MethodName)) ∈ lw_all := lw_g (lw_at lw_m6 12 rfl) rfl
theorem q1308 : (Jvm.Cond.code ({ cls := "RainWheel", name := "first", desc := "(I)I" } : Jvm.MethodName) prog_1_method_36_code (2 : Nat) (Option.some Jvm.ClassFile.FieldType.int)) ∈ lw_all := lw_g (lw_at lw_m6 13 rfl) rfl
theorem q1313 : (Jvm.Cond.instanceMethod ({ cls := "RainWheel", name := "sinks", desc := "(III)I" } : Jvm.MethodName)) ∈ lw_all := lw_g (lw_at lw_m6 18 rfl) rfl
theorem q1314 : (Jvm.Cond.selects "RainWheel" ({ cls := "RainWheel", name := "sinks", desc := "(III)I" } : Jvm.MethodName) ({ cls := "RainWheel", name := "sinks", desc := "(III)I" } : Jvm.MethodName)) ∈ lw_all := lw_g (lw_at lw_m6 19 rfl) rfl
theorem q1315 : (Jvm.Cond.code ({ cls := "RainWheel", name := "sinks", desc := "(III)I" } : Jvm.MethodName) prog_1_method_38_code (4 : Nat) (Option.some Jvm.ClassFile.FieldType.int)) ∈ lw_all := lw_g (lw_at lw_m6 20 rfl) rfl
theorem q1316 : (Jvm.Cond.methodLink "RainWheel" (333 : Nat) ({ cls := "RainWheel", name := "jack", desc := "(II)V" } : Jvm.MethodName)) ∈ lw_all := lw_g (lw_at lw_m6 21 rfl) rfl
theorem q1317 : (Jvm.Cond.privateMethod ({ cls := "RainWheel", name := "jack", desc := "(II)V" } : Jvm.MethodName)) ∈ lw_tbl := lw_at lw_m6 22 rfl
theorem q1318 : (Jvm.Cond.instanceMethod ({ cls := "RainWheel", name := "jack", desc := "(II)V" } : Jvm.MethodName)) ∈ lw_all := lw_g (lw_at lw_m6 23 rfl) rfl
theorem q1319 : (Jvm.Cond.code ({ cls := "RainWheel", name := "jack", desc := "(II)V" } : Jvm.MethodName) prog_1_method_37_code (3 : Nat) (Option.none : Option Jvm.ClassFile.FieldType)) ∈ lw_all := lw_g (lw_at lw_m6 24 rfl) rfl
theorem q1320 : (Jvm.Cond.methodLink "RainWheel" (336 : Nat) ({ cls := "RainWheel$Road", name := "sinks", desc := "(III)I" } : Jvm.MethodName)) ∈ lw_all := lw_g (lw_at lw_m6 25 rfl) rfl
theorem q1328 : (Jvm.Cond.instanceMethod ({ cls := "RainWheel", name := "under", desc := "(III)I" } : Jvm.MethodName)) ∈ lw_all := lw_g (lw_at lw_m6 33 rfl) rfl
theorem q1329 : (Jvm.Cond.selects "RainWheel" ({ cls := "RainWheel", name := "under", desc := "(III)I" } : Jvm.MethodName) ({ cls := "RainWheel", name := "under", desc := "(III)I" } : Jvm.MethodName)) ∈ lw_all := lw_g (lw_at lw_m6 34 rfl) rfl
theorem q1330 : (Jvm.Cond.code ({ cls := "RainWheel", name := "under", desc := "(III)I" } : Jvm.MethodName) prog_1_method_39_code (6 : Nat) (Option.some Jvm.ClassFile.FieldType.int)) ∈ lw_all := lw_g (lw_at lw_m6 35 rfl) rfl
theorem q1331 : (Jvm.Cond.methodLink "RainWheel" (340 : Nat) ({ cls := "java/lang/Integer", name := "bitCount", desc := "(I)I" } : Jvm.MethodName)) ∈ lw_all := lw_g (lw_at lw_m6 36 rfl) rfl
theorem q1336 : (Jvm.Cond.instanceMethod ({ cls := "RainWheel", name := "push", desc := "(IIII)I" } : Jvm.MethodName)) ∈ lw_all := lw_g (lw_at lw_m6 41 rfl) rfl
theorem q1337 : (Jvm.Cond.selects "RainWheel" ({ cls := "RainWheel", name := "push", desc := "(IIII)I" } : Jvm.MethodName) ({ cls := "RainWheel", name := "push", desc := "(IIII)I" } : Jvm.MethodName)) ∈ lw_all := lw_g (lw_at lw_m6 42 rfl) rfl
theorem q1338 : (Jvm.Cond.code ({ cls := "RainWheel", name := "push", desc := "(IIII)I" } : Jvm.MethodName) prog_1_method_40_code (9 : Nat) (Option.some Jvm.ClassFile.FieldType.int)) ∈ lw_all := lw_g (lw_at lw_m6 43 rfl) rfl
theorem q1339 : (Jvm.Cond.methodLink "RainWheel" (345 : Nat) ({ cls := "java/lang/Math", name := "abs", desc := "(I)I" } : Jvm.MethodName)) ∈ lw_all := lw_g (lw_at lw_m6 44 rfl) rfl
theorem q1346 : (Jvm.Cond.instanceMethod ({ cls := "RainWheel", name := "tries", desc := "(IIII)J" } : Jvm.MethodName)) ∈ lw_all := lw_g (lw_at lw_m6 51 rfl) rfl
theorem q1347 : (Jvm.Cond.selects "RainWheel" ({ cls := "RainWheel", name := "tries", desc := "(IIII)J" } : Jvm.MethodName) ({ cls := "RainWheel", name := "tries", desc := "(IIII)J" } : Jvm.MethodName)) ∈ lw_all := lw_g (lw_at lw_m6 52 rfl) rfl
theorem q1348 : (Jvm.Cond.code ({ cls := "RainWheel", name := "tries", desc := "(IIII)J" } : Jvm.MethodName) prog_1_method_43_code (5 : Nat) (Option.some Jvm.ClassFile.FieldType.long)) ∈ lw_all := lw_g (lw_at lw_m6 53 rfl) rfl
theorem q1349 : (Jvm.Cond.methodLink "RainWheel" (354 : Nat) ({ cls := "RainWheel", name := "strength", desc := "(I)V" } : Jvm.MethodName)) ∈ lw_all := lw_g (lw_at lw_m6 54 rfl) rfl
theorem q1350 : (Jvm.Cond.privateMethod ({ cls := "RainWheel", name := "strength", desc := "(I)V" } : Jvm.MethodName)) ∈ lw_tbl := lw_at lw_m6 55 rfl
theorem q1351 : (Jvm.Cond.instanceMethod ({ cls := "RainWheel", name := "strength", desc := "(I)V" } : Jvm.MethodName)) ∈ lw_all := lw_g (lw_at lw_m6 56 rfl) rfl
theorem q1352 : (Jvm.Cond.code ({ cls := "RainWheel", name := "strength", desc := "(I)V" } : Jvm.MethodName) prog_1_method_42_code (2 : Nat) (Option.none : Option Jvm.ClassFile.FieldType)) ∈ lw_all := lw_g (lw_at lw_m6 57 rfl) rfl
theorem q1353 : (Jvm.Cond.methodLink "RainWheel" (356 : Nat) ({ cls := "RainWheel", name := "power", desc := "(II)J" } : Jvm.MethodName)) ∈ lw_all := lw_g (lw_at lw_m6 58 rfl) rfl
theorem q1354 : (Jvm.Cond.static ({ cls := "RainWheel", name := "power", desc := "(II)J" } : Jvm.MethodName)) ∈ lw_all := lw_g (lw_at lw_m6 59 rfl) rfl
theorem q1355 : (Jvm.Cond.code ({ cls := "RainWheel", name := "power", desc := "(II)J" } : Jvm.MethodName) prog_1_method_2_code (5 : Nat) (Option.some Jvm.ClassFile.FieldType.long)) ∈ lw_all := lw_g (lw_at lw_m6 60 rfl) rfl
theorem q1356 : (Jvm.Cond.methodLink "RainWheel" (360 : Nat) ({ cls := "RainWheel", name := "loosens", desc := "(II)I" } : Jvm.MethodName)) ∈ lw_all := lw_g (lw_at lw_m6 61 rfl) rfl
theorem q1357 : (Jvm.Cond.privateMethod ({ cls := "RainWheel", name := "loosens", desc := "(II)I" } : Jvm.MethodName)) ∈ lw_tbl := lw_at lw_m6 62 rfl
theorem q1358 : (Jvm.Cond.instanceMethod ({ cls := "RainWheel", name := "loosens", desc := "(II)I" } : Jvm.MethodName)) ∈ lw_all := lw_g (lw_at lw_m6 63 rfl) rfl
theorem q1359 : (Jvm.Cond.code ({ cls := "RainWheel", name := "loosens", desc := "(II)I" } : Jvm.MethodName) prog_1_method_41_code (3 : Nat) (Option.some Jvm.ClassFile.FieldType.int)) ∈ lw_all := lw_g (lw_at lw_m6 64 rfl) rfl
theorem q1360 : (Jvm.Cond.methodLink "RainWheel" (363 : Nat) ({ cls := "RainWheel", name := "part", desc := "(JJI)J" } : Jvm.MethodName)) ∈ lw_all := lw_g (lw_at lw_m6 65 rfl) rfl
theorem q1361 : (Jvm.Cond.static ({ cls := "RainWheel", name := "part", desc := "(JJI)J" } : Jvm.MethodName)) ∈ lw_all := lw_g (lw_at lw_m6 66 rfl) rfl
theorem q1362 : (Jvm.Cond.code ({ cls := "RainWheel", name := "part", desc := "(JJI)J" } : Jvm.MethodName) prog_1_method_1_code (11 : Nat) (Option.some Jvm.ClassFile.FieldType.long)) ∈ lw_all := lw_g (lw_at lw_m6 67 rfl) rfl
theorem q1367 : (Jvm.Cond.instanceMethod ({ cls := "RainWheel", name := "half", desc := "(II)I" } : Jvm.MethodName)) ∈ lw_all := lw_g (lw_at lw_m6 72 rfl) rfl
theorem q1368 : (Jvm.Cond.selects "RainWheel" ({ cls := "RainWheel", name := "half", desc := "(II)I" } : Jvm.MethodName) ({ cls := "RainWheel", name := "half", desc := "(II)I" } : Jvm.MethodName)) ∈ lw_all := lw_g (lw_at lw_m6 73 rfl) rfl
theorem q1369 : (Jvm.Cond.code ({ cls := "RainWheel", name := "half", desc := "(II)I" } : Jvm.MethodName) prog_1_method_44_code (4 : Nat) (Option.some Jvm.ClassFile.FieldType.int)) ∈ lw_all := lw_g (lw_at lw_m6 74 rfl) rfl
theorem q1370 : (Jvm.Cond.constantLong "RainWheel" (367 : Nat) (2 : Int64)) ∈ lw_all := lw_g (lw_at lw_m6 75 rfl) rfl
theorem q1375 : (Jvm.Cond.instanceMethod ({ cls := "RainWheel", name := "easiest", desc := "(I)I" } : Jvm.MethodName)) ∈ lw_all := lw_g (lw_at lw_m6 80 rfl) rfl
theorem q1376 : (Jvm.Cond.selects "RainWheel" ({ cls := "RainWheel", name := "easiest", desc := "(I)I" } : Jvm.MethodName) ({ cls := "RainWheel", name := "easiest", desc := "(I)I" } : Jvm.MethodName)) ∈ lw_all := lw_g (lw_at lw_m6 81 rfl) rfl
theorem q1377 : (Jvm.Cond.code ({ cls := "RainWheel", name := "easiest", desc := "(I)I" } : Jvm.MethodName) prog_1_method_45_code (4 : Nat) (Option.some Jvm.ClassFile.FieldType.int)) ∈ lw_all := lw_g (lw_at lw_m6 82 rfl) rfl
theorem q1382 : (Jvm.Cond.instanceMethod ({ cls := "RainWheel", name := "waits", desc := "(IIII)J" } : Jvm.MethodName)) ∈ lw_all := lw_g (lw_at lw_m6 87 rfl) rfl
theorem q1383 : (Jvm.Cond.selects "RainWheel" ({ cls := "RainWheel", name := "waits", desc := "(IIII)J" } : Jvm.MethodName) ({ cls := "RainWheel", name := "waits", desc := "(IIII)J" } : Jvm.MethodName)) ∈ lw_all := lw_g (lw_at lw_m6 88 rfl) rfl
theorem q1384 : (Jvm.Cond.code ({ cls := "RainWheel", name := "waits", desc := "(IIII)J" } : Jvm.MethodName) prog_1_method_48_code (5 : Nat) (Option.some Jvm.ClassFile.FieldType.long)) ∈ lw_all := lw_g (lw_at lw_m6 89 rfl) rfl
theorem q1385 : (Jvm.Cond.methodLink "RainWheel" (369 : Nat) ({ cls := "RainWheel", name := "waiting", desc := "(II)V" } : Jvm.MethodName)) ∈ lw_all := lw_g (lw_at lw_m6 90 rfl) rfl
theorem q1386 : (Jvm.Cond.privateMethod ({ cls := "RainWheel", name := "waiting", desc := "(II)V" } : Jvm.MethodName)) ∈ lw_tbl := lw_at lw_m6 91 rfl
theorem q1387 : (Jvm.Cond.instanceMethod ({ cls := "RainWheel", name := "waiting", desc := "(II)V" } : Jvm.MethodName)) ∈ lw_all := lw_g (lw_at lw_m6 92 rfl) rfl
theorem q1388 : (Jvm.Cond.code ({ cls := "RainWheel", name := "waiting", desc := "(II)V" } : Jvm.MethodName) prog_1_method_47_code (3 : Nat) (Option.none : Option Jvm.ClassFile.FieldType)) ∈ lw_all := lw_g (lw_at lw_m6 93 rfl) rfl
theorem q1389 : (Jvm.Cond.methodLink "RainWheel" (372 : Nat) ({ cls := "RainWheel", name := "meanOf", desc := "(III)J" } : Jvm.MethodName)) ∈ lw_all := lw_g (lw_at lw_m6 94 rfl) rfl
theorem q1390 : (Jvm.Cond.privateMethod ({ cls := "RainWheel", name := "meanOf", desc := "(III)J" } : Jvm.MethodName)) ∈ lw_tbl := lw_at lw_m6 95 rfl
theorem q1391 : (Jvm.Cond.instanceMethod ({ cls := "RainWheel", name := "meanOf", desc := "(III)J" } : Jvm.MethodName)) ∈ lw_all := lw_g (lw_at lw_m6 96 rfl) rfl
theorem q1392 : (Jvm.Cond.code ({ cls := "RainWheel", name := "meanOf", desc := "(III)J" } : Jvm.MethodName) prog_1_method_46_code (7 : Nat) (Option.some Jvm.ClassFile.FieldType.long)) ∈ lw_all := lw_g (lw_at lw_m6 97 rfl) rfl
theorem q1397 : (Jvm.Cond.instanceMethod ({ cls := "RainWheel", name := "await", desc := "(II)I" } : Jvm.MethodName)) ∈ lw_all := lw_g (lw_at lw_m6 102 rfl) rfl
theorem q1398 : (Jvm.Cond.selects "RainWheel" ({ cls := "RainWheel", name := "await", desc := "(II)I" } : Jvm.MethodName) ({ cls := "RainWheel", name := "await", desc := "(II)I" } : Jvm.MethodName)) ∈ lw_all := lw_g (lw_at lw_m6 103 rfl) rfl
theorem q1399 : (Jvm.Cond.code ({ cls := "RainWheel", name := "await", desc := "(II)I" } : Jvm.MethodName) prog_1_method_49_code (5 : Nat) (Option.some Jvm.ClassFile.FieldType.int)) ∈ lw_all := lw_g (lw_at lw_m6 104 rfl) rfl
theorem q1404 : (Jvm.Cond.instanceMethod ({ cls := "RainWheel", name := "cross", desc := "(II)I" } : Jvm.MethodName)) ∈ lw_all := lw_g (lw_at lw_m6 109 rfl) rfl
theorem q1405 : (Jvm.Cond.selects "RainWheel" ({ cls := "RainWheel", name := "cross", desc := "(II)I" } : Jvm.MethodName) ({ cls := "RainWheel", name := "cross", desc := "(II)I" } : Jvm.MethodName)) ∈ lw_all := lw_g (lw_at lw_m6 110 rfl) rfl
theorem q1406 : (Jvm.Cond.code ({ cls := "RainWheel", name := "cross", desc := "(II)I" } : Jvm.MethodName) prog_1_method_50_code (3 : Nat) (Option.some Jvm.ClassFile.FieldType.int)) ∈ lw_all := lw_g (lw_at lw_m6 111 rfl) rfl
theorem q1407 : (Jvm.Cond.methodLink "RainWheel" (376 : Nat) ({ cls := "RainWheel$Ring", name := "finds", desc := "(I)V" } : Jvm.MethodName)) ∈ lw_all := lw_g (lw_at lw_m6 112 rfl) rfl
theorem q1424 : (Jvm.Cond.instanceMethod ({ cls := "RainWheel", name := "crooked", desc := "(I)I" } : Jvm.MethodName)) ∈ lw_all := lw_g (lw_at lw_m6 129 rfl) rfl
theorem q1425 : (Jvm.Cond.selects "RainWheel" ({ cls := "RainWheel", name := "crooked", desc := "(I)I" } : Jvm.MethodName) ({ cls := "RainWheel", name := "crooked", desc := "(I)I" } : Jvm.MethodName)) ∈ lw_all := lw_g (lw_at lw_m6 130 rfl) rfl
theorem q1426 : (Jvm.Cond.code ({ cls := "RainWheel", name := "crooked", desc := "(I)I" } : Jvm.MethodName) prog_1_method_51_code (8 : Nat) (Option.some Jvm.ClassFile.FieldType.int)) ∈ lw_all := lw_g (lw_at lw_m6 131 rfl) rfl
theorem q1427 : (Jvm.Cond.methodLink "RainWheel" (384 : Nat) ({ cls := "RainWheel$Ring", name := "lacks", desc := "(III)I" } : Jvm.MethodName)) ∈ lw_all := lw_g (lw_at lw_m6 132 rfl) rfl
theorem q1432 : (Jvm.Cond.instanceMethod ({ cls := "RainWheel", name := "share", desc := "(I)I" } : Jvm.MethodName)) ∈ lw_all := lw_g (lw_at lw_m6 137 rfl) rfl
theorem q1433 : (Jvm.Cond.selects "RainWheel" ({ cls := "RainWheel", name := "share", desc := "(I)I" } : Jvm.MethodName) ({ cls := "RainWheel", name := "share", desc := "(I)I" } : Jvm.MethodName)) ∈ lw_all := lw_g (lw_at lw_m6 138 rfl) rfl
theorem q1434 : (Jvm.Cond.code ({ cls := "RainWheel", name := "share", desc := "(I)I" } : Jvm.MethodName) prog_1_method_52_code (2 : Nat) (Option.some Jvm.ClassFile.FieldType.int)) ∈ lw_all := lw_g (lw_at lw_m6 139 rfl) rfl
theorem q1439 : (Jvm.Cond.instanceMethod ({ cls := "RainWheel", name := "drive", desc := "(I)I" } : Jvm.MethodName)) ∈ lw_all := lw_g (lw_at lw_m6 144 rfl) rfl
theorem q1440 : (Jvm.Cond.selects "RainWheel" ({ cls := "RainWheel", name := "drive", desc := "(I)I" } : Jvm.MethodName) ({ cls := "RainWheel", name := "drive", desc := "(I)I" } : Jvm.MethodName)) ∈ lw_all := lw_g (lw_at lw_m6 145 rfl) rfl
theorem q1441 : (Jvm.Cond.code ({ cls := "RainWheel", name := "drive", desc := "(I)I" } : Jvm.MethodName) prog_1_method_53_code (2 : Nat) (Option.some Jvm.ClassFile.FieldType.int)) ∈ lw_all := lw_g (lw_at lw_m6 146 rfl) rfl
theorem q1442 : (Jvm.Cond.methodLink "RainWheel" (390 : Nat) ({ cls := "RainWheel$Miles", name := "lays", desc := "(II)V" } : Jvm.MethodName)) ∈ lw_all := lw_g (lw_at lw_m6 147 rfl) rfl
theorem q1457 : (Jvm.Cond.instanceMethod ({ cls := "RainWheel", name := "pumps", desc := "(I)I" } : Jvm.MethodName)) ∈ lw_all := lw_g (lw_at lw_m6 162 rfl) rfl
theorem q1458 : (Jvm.Cond.selects "RainWheel" ({ cls := "RainWheel", name := "pumps", desc := "(I)I" } : Jvm.MethodName) ({ cls := "RainWheel", name := "pumps", desc := "(I)I" } : Jvm.MethodName)) ∈ lw_all := lw_g (lw_at lw_m6 163 rfl) rfl
theorem q1459 : (Jvm.Cond.code ({ cls := "RainWheel", name := "pumps", desc := "(I)I" } : Jvm.MethodName) prog_1_method_54_code (2 : Nat) (Option.some Jvm.ClassFile.FieldType.int)) ∈ lw_all := lw_g (lw_at lw_m6 164 rfl) rfl
theorem q1464 : (Jvm.Cond.instanceMethod ({ cls := "RainWheel", name := "odds", desc := "(II)J" } : Jvm.MethodName)) ∈ lw_all := lw_g (lw_at lw_m6 169 rfl) rfl
theorem q1465 : (Jvm.Cond.selects "RainWheel" ({ cls := "RainWheel", name := "odds", desc := "(II)J" } : Jvm.MethodName) ({ cls := "RainWheel", name := "odds", desc := "(II)J" } : Jvm.MethodName)) ∈ lw_all := lw_g (lw_at lw_m6 170 rfl) rfl
theorem q1466 : (Jvm.Cond.code ({ cls := "RainWheel", name := "odds", desc := "(II)J" } : Jvm.MethodName) prog_1_method_56_code (5 : Nat) (Option.some Jvm.ClassFile.FieldType.long)) ∈ lw_all := lw_g (lw_at lw_m6 171 rfl) rfl
theorem q1471 : (Jvm.Cond.instanceMethod ({ cls := "RainWheel", name := "evening", desc := "(II)I" } : Jvm.MethodName)) ∈ lw_all := lw_g (lw_at lw_m6 176 rfl) rfl
theorem q1472 : (Jvm.Cond.selects "RainWheel" ({ cls := "RainWheel", name := "evening", desc := "(II)I" } : Jvm.MethodName) ({ cls := "RainWheel", name := "evening", desc := "(II)I" } : Jvm.MethodName)) ∈ lw_all := lw_g (lw_at lw_m6 177 rfl) rfl
theorem q1473 : (Jvm.Cond.code ({ cls := "RainWheel", name := "evening", desc := "(II)I" } : Jvm.MethodName) prog_1_method_61_code (3 : Nat) (Option.some Jvm.ClassFile.FieldType.int)) ∈ lw_all := lw_g (lw_at lw_m6 178 rfl) rfl
theorem q1474 : (Jvm.Cond.methodLink "RainWheel" (417 : Nat) ({ cls := "RainWheel", name := "lost", desc := "(I)LRainWheel$Watch;" } : Jvm.MethodName)) ∈ lw_all := lw_g (lw_at lw_m6 179 rfl) rfl
theorem q1475 : (Jvm.Cond.privateMethod ({ cls := "RainWheel", name := "lost", desc := "(I)LRainWheel$Watch;" } : Jvm.MethodName)) ∈ lw_tbl := lw_at lw_m6 180 rfl
theorem q1476 : (Jvm.Cond.instanceMethod ({ cls := "RainWheel", name := "lost", desc := "(I)LRainWheel$Watch;" } : Jvm.MethodName)) ∈ lw_all := lw_g (lw_at lw_m6 181 rfl) rfl
theorem q1477 : (Jvm.Cond.code ({ cls := "RainWheel", name := "lost", desc := "(I)LRainWheel$Watch;" } : Jvm.MethodName) prog_1_method_60_code (2 : Nat) (Option.some (Jvm.ClassFile.FieldType.object "RainWheel$Watch"))) ∈ lw_all := lw_g (lw_at lw_m6 182 rfl) rfl
theorem q1478 : (Jvm.Cond.methodLink "RainWheel" (413 : Nat) ({ cls := "RainWheel$Watch", name := "losing", desc := "(I)LRainWheel$Watch;" } : Jvm.MethodName)) ∈ lw_all := lw_g (lw_at lw_m6 183 rfl) rfl
theorem q1482 : (Jvm.Cond.methodLink "RainWheel" (420 : Nat) ({ cls := "RainWheel$Watch", name := "allWet", desc := "()I" } : Jvm.MethodName)) ∈ lw_all := lw_g (lw_at lw_m6 187 rfl) rfl
theorem q1487 : (Jvm.Cond.instanceMethod ({ cls := "RainWheel", name := "evenings", desc := "(III)I" } : Jvm.MethodName)) ∈ lw_all := lw_g (lw_at lw_m6 192 rfl) rfl
theorem q1488 : (Jvm.Cond.selects "RainWheel" ({ cls := "RainWheel", name := "evenings", desc := "(III)I" } : Jvm.MethodName) ({ cls := "RainWheel", name := "evenings", desc := "(III)I" } : Jvm.MethodName)) ∈ lw_all := lw_g (lw_at lw_m6 193 rfl) rfl
theorem q1489 : (Jvm.Cond.code ({ cls := "RainWheel", name := "evenings", desc := "(III)I" } : Jvm.MethodName) prog_1_method_62_code (10 : Nat) (Option.some Jvm.ClassFile.FieldType.int)) ∈ lw_all := lw_g (lw_at lw_m6 194 rfl) rfl
theorem q1494 : (Jvm.Cond.instanceMethod ({ cls := "RainWheel", name := "swap", desc := "(II)I" } : Jvm.MethodName)) ∈ lw_all := lw_g (lw_at lw_m6 199 rfl) rfl
theorem q1495 : (Jvm.Cond.selects "RainWheel" ({ cls := "RainWheel", name := "swap", desc := "(II)I" } : Jvm.MethodName) ({ cls := "RainWheel", name := "swap", desc := "(II)I" } : Jvm.MethodName)) ∈ lw_all := lw_g (lw_at lw_m6 200 rfl) rfl
theorem q1496 : (Jvm.Cond.code ({ cls := "RainWheel", name := "swap", desc := "(II)I" } : Jvm.MethodName) prog_1_method_64_code (3 : Nat) (Option.some Jvm.ClassFile.FieldType.int)) ∈ lw_all := lw_g (lw_at lw_m6 201 rfl) rfl
theorem q1497 : (Jvm.Cond.methodLink "RainWheel" (426 : Nat) ({ cls := "RainWheel", name := "changes", desc := "()Z" } : Jvm.MethodName)) ∈ lw_all := lw_g (lw_at lw_m6 202 rfl) rfl
theorem q1498 : (Jvm.Cond.privateMethod ({ cls := "RainWheel", name := "changes", desc := "()Z" } : Jvm.MethodName)) ∈ lw_tbl := lw_at lw_m6 203 rfl
theorem q1499 : (Jvm.Cond.instanceMethod ({ cls := "RainWheel", name := "changes", desc := "()Z" } : Jvm.MethodName)) ∈ lw_all := lw_g (lw_at lw_m6 204 rfl) rfl
theorem q1500 : (Jvm.Cond.code ({ cls := "RainWheel", name := "changes", desc := "()Z" } : Jvm.MethodName) prog_1_method_63_code (1 : Nat) (Option.some Jvm.ClassFile.FieldType.boolean)) ∈ lw_all := lw_g (lw_at lw_m6 205 rfl) rfl
theorem q1501 : (Jvm.Cond.methodLink "RainWheel" (429 : Nat) ({ cls := "RainWheel$Plan", name := "swaps", desc := "(II)V" } : Jvm.MethodName)) ∈ lw_all := lw_g (lw_at lw_m6 206 rfl) rfl
theorem q1512 : (Jvm.Cond.instanceMethod ({ cls := "RainWheel", name := "hand", desc := "(II)I" } : Jvm.MethodName)) ∈ lw_all := lw_g (lw_at lw_m6 217 rfl) rfl
theorem q1513 : (Jvm.Cond.selects "RainWheel" ({ cls := "RainWheel", name := "hand", desc := "(II)I" } : Jvm.MethodName) ({ cls := "RainWheel", name := "hand", desc := "(II)I" } : Jvm.MethodName)) ∈ lw_all := lw_g (lw_at lw_m6 218 rfl) rfl
theorem q1514 : (Jvm.Cond.code ({ cls := "RainWheel", name := "hand", desc := "(II)I" } : Jvm.MethodName) prog_1_method_65_code (3 : Nat) (Option.some Jvm.ClassFile.FieldType.int)) ∈ lw_all := lw_g (lw_at lw_m6 219 rfl) rfl
theorem q1519 : (Jvm.Cond.instanceMethod ({ cls := "RainWheel", name := "drop", desc := "(I)I" } : Jvm.MethodName)) ∈ lw_all := lw_g (lw_at lw_m6 224 rfl) rfl
theorem q1520 : (Jvm.Cond.selects "RainWheel" ({ cls := "RainWheel", name := "drop", desc := "(I)I" } : Jvm.MethodName) ({ cls := "RainWheel", name := "drop", desc := "(I)I" } : Jvm.MethodName)) ∈ lw_all := lw_g (lw_at lw_m6 225 rfl) rfl
theorem q1521 : (Jvm.Cond.code ({ cls := "RainWheel", name := "drop", desc := "(I)I" } : Jvm.MethodName) prog_1_method_66_code (2 : Nat) (Option.some Jvm.ClassFile.FieldType.int)) ∈ lw_all := lw_g (lw_at lw_m6 226 rfl) rfl
theorem q1522 : (Jvm.Cond.methodLink "RainWheel" (432 : Nat) ({ cls := "RainWheel$Plan", name := "drops", desc := "(I)V" } : Jvm.MethodName)) ∈ lw_all := lw_g (lw_at lw_m6 227 rfl) rfl
theorem q2251 : (Jvm.Cond.castable "RainWheel" "java/lang/Object") ∈ lw_tbl := lw_at lw_m9 236 rfl

abbrev cX2_init : ByteArray := prog_4_method_1_code
def yX2_init : MethodName := ⟨RX2, "<init>", "()V"⟩
theorem dX2_init_0 : decode cX2_init 0 = .ok (.aload_n 0, 1) := by decide +kernel
theorem dX2_init_1 : decode cX2_init 1 = .ok (.invokespecial 3, 3) := by decide +kernel
theorem dX2_init_4 : decode cX2_init 4 = .ok (.return_, 1) := by decide +kernel
abbrev cX2_lasts : ByteArray := prog_4_method_2_code
def yX2_lasts : MethodName := ⟨RX2, "lasts", "(LRainWheel$Sight;)I"⟩
def dkwX2_lasts_1 : List UInt8 := [185, 0, 21, 2, 0, 184, 0, 27, 184, 0, 33, 172]
abbrev dktX2_lasts_1 : List UInt8 := dkwX2_lasts_1 ++ []
def dkwX2_lasts_0 : List UInt8 := [4, 16, 99, 42, 180, 0, 9, 199, 0, 10, 43, 180, 0, 15, 167, 0, 13, 42, 180, 0, 9, 43]
abbrev dktX2_lasts_0 : List UInt8 := dkwX2_lasts_0 ++ dktX2_lasts_1
theorem dksX2_lasts_0 : cX2_lasts.data.toList.drop 0 = dktX2_lasts_0 := by decide +kernel
theorem dksX2_lasts_1 : cX2_lasts.data.toList.drop 22 = dktX2_lasts_1 := dk_seg dksX2_lasts_0 22 rfl rfl
theorem dX2_lasts_0 : decode cX2_lasts 0 = .ok (.iconst 1, 1) := dk_4 (dk_at dksX2_lasts_0 0 rfl rfl)
theorem dX2_lasts_1 : decode cX2_lasts 1 = .ok (.bipush 99, 2) := dk_16 99 (dk_at dksX2_lasts_0 1 rfl rfl)
theorem dX2_lasts_3 : decode cX2_lasts 3 = .ok (.aload_n 0, 1) := dk_42 (dk_at dksX2_lasts_0 3 rfl rfl)
theorem dX2_lasts_4 : decode cX2_lasts 4 = .ok (.getfield 9, 3) := dk_180 0 9 (dk_at dksX2_lasts_0 4 rfl rfl)
theorem dX2_lasts_7 : decode cX2_lasts 7 = .ok (.ifnonnull 10, 3) := dk_199 0 10 (dk_at dksX2_lasts_0 7 rfl rfl)
theorem dX2_lasts_10 : decode cX2_lasts 10 = .ok (.aload_n 1, 1) := dk_43 (dk_at dksX2_lasts_0 10 rfl rfl)
theorem dX2_lasts_11 : decode cX2_lasts 11 = .ok (.getfield 15, 3) := dk_180 0 15 (dk_at dksX2_lasts_0 11 rfl rfl)
theorem dX2_lasts_14 : decode cX2_lasts 14 = .ok (.goto 13, 3) := dk_167 0 13 (dk_at dksX2_lasts_0 14 rfl rfl)
theorem dX2_lasts_17 : decode cX2_lasts 17 = .ok (.aload_n 0, 1) := dk_42 (dk_at dksX2_lasts_0 17 rfl rfl)
theorem dX2_lasts_18 : decode cX2_lasts 18 = .ok (.getfield 9, 3) := dk_180 0 9 (dk_at dksX2_lasts_0 18 rfl rfl)
theorem dX2_lasts_21 : decode cX2_lasts 21 = .ok (.aload_n 1, 1) := dk_43 (dk_at dksX2_lasts_0 21 rfl rfl)
theorem dX2_lasts_22 : decode cX2_lasts 22 = .ok (.invokeinterface 21 2, 5) := by decide +kernel
theorem dX2_lasts_27 : decode cX2_lasts 27 = .ok (.invokestatic 27, 3) := dk_184 0 27 (dk_at dksX2_lasts_1 5 rfl rfl)
theorem dX2_lasts_30 : decode cX2_lasts 30 = .ok (.invokestatic 33, 3) := dk_184 0 33 (dk_at dksX2_lasts_1 8 rfl rfl)
theorem dX2_lasts_33 : decode cX2_lasts 33 = .ok (.ireturn, 1) := dk_172 (dk_at dksX2_lasts_1 11 rfl rfl)
theorem q97 : (Jvm.Cond.initialized "RainWheel$Law") ∈ lw_all := lw_g (lw_at lw_m1 2 rfl) rfl
theorem q135 : (Jvm.Cond.instantiable "RainWheel$Law" (1 : Nat)) ∈ lw_all := lw_g (lw_at lw_m1 40 rfl) rfl
theorem q137 : (Jvm.Cond.instanceMethod ({ cls := "RainWheel$Law", name := "<init>", desc := "()V" } : Jvm.MethodName)) ∈ lw_all := lw_g (lw_at lw_m1 42 rfl) rfl
theorem q138 : (Jvm.Cond.code ({ cls := "RainWheel$Law", name := "<init>", desc := "()V" } : Jvm.MethodName) prog_4_method_1_code (1 : Nat) (Option.none : Option Jvm.ClassFile.FieldType)) ∈ lw_all := lw_g (lw_at lw_m1 43 rfl) rfl
theorem q139 : (Jvm.Cond.methodLink "RainWheel$Law" (3 : Nat) ({ cls := "java/lang/Object", name := "<init>", desc := "()V" } : Jvm.MethodName)) ∈ lw_all := lw_g (lw_at lw_m1 44 rfl) rfl
theorem q140 : (Jvm.Cond.fieldLink "RainWheel$Law" (9 : Nat) "RainWheel$Law" "term" "LRainWheel$Term;") ∈ lw_all := lw_g (lw_at lw_m1 45 rfl) rfl
theorem q142 : (Jvm.Cond.lays "RainWheel$Law" "RainWheel$Law" "term" "LRainWheel$Term;") ∈ lw_all := lw_g (lw_at lw_m1 47 rfl) rfl
theorem q143 : (Jvm.Cond.soleField "RainWheel$Law" "term") ∈ lw_all := lw_g (lw_at lw_m1 48 rfl) rfl
theorem q144 : (Jvm.Cond.superclass "RainWheel$Law" "java/lang/Object") ∈ lw_all := lw_g (lw_at lw_m1 49 rfl) rfl
theorem q185 : (Jvm.Cond.fieldLinkNest "RainWheel$Law" (15 : Nat) "RainWheel$Sight" "minutes" "I" "RainWheel") ∈ lw_tbl := lw_at lw_m1 90 rfl
theorem q591 : (Jvm.Cond.instanceMethod ({ cls := "RainWheel$Law", name := "lasts", desc := "(LRainWheel$Sight;)I" } : Jvm.MethodName)) ∈ lw_all := lw_g (lw_at lw_m3 16 rfl) rfl
theorem q592 : (Jvm.Cond.selects "RainWheel$Law" ({ cls := "RainWheel$Law", name := "lasts", desc := "(LRainWheel$Sight;)I" } : Jvm.MethodName) ({ cls := "RainWheel$Law", name := "lasts", desc := "(LRainWheel$Sight;)I" } : Jvm.MethodName)) ∈ lw_all := lw_g (lw_at lw_m3 17 rfl) rfl
theorem q593 : (Jvm.Cond.code ({ cls := "RainWheel$Law", name := "lasts", desc := "(LRainWheel$Sight;)I" } : Jvm.MethodName) prog_4_method_2_code (2 : Nat) (Option.some Jvm.ClassFile.FieldType.int)) ∈ lw_all := lw_g (lw_at lw_m3 18 rfl) rfl
theorem q594 : (Jvm.Cond.interfaceEntry "RainWheel$Law" (21 : Nat)) ∈ lw_tbl := lw_at lw_m3 19 rfl
theorem q595 : (Jvm.Cond.methodLink "RainWheel$Law" (21 : Nat) ({ cls := "RainWheel$Term", name := "on", desc := "(LRainWheel$Sight;)I" } : Jvm.MethodName)) ∈ lw_all := lw_g (lw_at lw_m3 20 rfl) rfl
theorem q626 : (Jvm.Cond.methodLink "RainWheel$Law" (27 : Nat) ({ cls := "java/lang/Math", name := "min", desc := "(II)I" } : Jvm.MethodName)) ∈ lw_all := lw_g (lw_at lw_m3 51 rfl) rfl
theorem q627 : (Jvm.Cond.methodLink "RainWheel$Law" (33 : Nat) ({ cls := "java/lang/Math", name := "max", desc := "(II)I" } : Jvm.MethodName)) ∈ lw_all := lw_g (lw_at lw_m3 52 rfl) rfl
theorem q2252 : (Jvm.Cond.castable "RainWheel$Law" "java/lang/Object") ∈ lw_tbl := lw_at lw_m9 237 rfl

abbrev cX3_init : ByteArray := prog_7_method_1_code
def yX3_init : MethodName := ⟨RX3, "<init>", "()V"⟩
def dkwX3_init_0 : List UInt8 := [42, 183, 0, 3, 42, 16, 12, 188, 10, 181, 0, 9, 42, 16, 12, 188, 10, 181, 0, 15, 177]
abbrev dktX3_init_0 : List UInt8 := dkwX3_init_0 ++ []
theorem dksX3_init_0 : cX3_init.data.toList.drop 0 = dktX3_init_0 := by decide +kernel
theorem dX3_init_0 : decode cX3_init 0 = .ok (.aload_n 0, 1) := dk_42 (dk_at dksX3_init_0 0 rfl rfl)
theorem dX3_init_1 : decode cX3_init 1 = .ok (.invokespecial 3, 3) := dk_183 0 3 (dk_at dksX3_init_0 1 rfl rfl)
theorem dX3_init_4 : decode cX3_init 4 = .ok (.aload_n 0, 1) := dk_42 (dk_at dksX3_init_0 4 rfl rfl)
theorem dX3_init_5 : decode cX3_init 5 = .ok (.bipush 12, 2) := dk_16 12 (dk_at dksX3_init_0 5 rfl rfl)
theorem dX3_init_7 : decode cX3_init 7 = .ok (.newarray .int, 2) := dk_188_10 (dk_at dksX3_init_0 7 rfl rfl)
theorem dX3_init_9 : decode cX3_init 9 = .ok (.putfield 9, 3) := dk_181 0 9 (dk_at dksX3_init_0 9 rfl rfl)
theorem dX3_init_12 : decode cX3_init 12 = .ok (.aload_n 0, 1) := dk_42 (dk_at dksX3_init_0 12 rfl rfl)
theorem dX3_init_13 : decode cX3_init 13 = .ok (.bipush 12, 2) := dk_16 12 (dk_at dksX3_init_0 13 rfl rfl)
theorem dX3_init_15 : decode cX3_init 15 = .ok (.newarray .int, 2) := dk_188_10 (dk_at dksX3_init_0 15 rfl rfl)
theorem dX3_init_17 : decode cX3_init 17 = .ok (.putfield 15, 3) := dk_181 0 15 (dk_at dksX3_init_0 17 rfl rfl)
theorem dX3_init_20 : decode cX3_init 20 = .ok (.return_, 1) := dk_177 (dk_at dksX3_init_0 20 rfl rfl)
abbrev cX3_lineOf : ByteArray := prog_7_method_3_code
def yX3_lineOf : MethodName := ⟨RX3, "lineOf", "(I)I"⟩
def dkwX3_lineOf_1 : List UInt8 := [132, 2, 1, 167, 255, 233, 2, 172]
abbrev dktX3_lineOf_1 : List UInt8 := dkwX3_lineOf_1 ++ []
def dkwX3_lineOf_0 : List UInt8 := [3, 61, 28, 42, 180, 0, 18, 162, 0, 21, 42, 180, 0, 9, 28, 46, 27, 160, 0, 5, 28, 172]
abbrev dktX3_lineOf_0 : List UInt8 := dkwX3_lineOf_0 ++ dktX3_lineOf_1
theorem dksX3_lineOf_0 : cX3_lineOf.data.toList.drop 0 = dktX3_lineOf_0 := by decide +kernel
theorem dksX3_lineOf_1 : cX3_lineOf.data.toList.drop 22 = dktX3_lineOf_1 := dk_seg dksX3_lineOf_0 22 rfl rfl
theorem dX3_lineOf_0 : decode cX3_lineOf 0 = .ok (.iconst 0, 1) := dk_3 (dk_at dksX3_lineOf_0 0 rfl rfl)
theorem dX3_lineOf_1 : decode cX3_lineOf 1 = .ok (.istore_n 2, 1) := dk_61 (dk_at dksX3_lineOf_0 1 rfl rfl)
theorem dX3_lineOf_2 : decode cX3_lineOf 2 = .ok (.iload_n 2, 1) := dk_28 (dk_at dksX3_lineOf_0 2 rfl rfl)
theorem dX3_lineOf_3 : decode cX3_lineOf 3 = .ok (.aload_n 0, 1) := dk_42 (dk_at dksX3_lineOf_0 3 rfl rfl)
theorem dX3_lineOf_4 : decode cX3_lineOf 4 = .ok (.getfield 18, 3) := dk_180 0 18 (dk_at dksX3_lineOf_0 4 rfl rfl)
theorem dX3_lineOf_7 : decode cX3_lineOf 7 = .ok (.if_icmp .ge 21, 3) := dk_162 0 21 (dk_at dksX3_lineOf_0 7 rfl rfl)
theorem dX3_lineOf_10 : decode cX3_lineOf 10 = .ok (.aload_n 0, 1) := dk_42 (dk_at dksX3_lineOf_0 10 rfl rfl)
theorem dX3_lineOf_11 : decode cX3_lineOf 11 = .ok (.getfield 9, 3) := dk_180 0 9 (dk_at dksX3_lineOf_0 11 rfl rfl)
theorem dX3_lineOf_14 : decode cX3_lineOf 14 = .ok (.iload_n 2, 1) := dk_28 (dk_at dksX3_lineOf_0 14 rfl rfl)
theorem dX3_lineOf_15 : decode cX3_lineOf 15 = .ok (.iaload, 1) := dk_46 (dk_at dksX3_lineOf_0 15 rfl rfl)
theorem dX3_lineOf_16 : decode cX3_lineOf 16 = .ok (.iload_n 1, 1) := dk_27 (dk_at dksX3_lineOf_0 16 rfl rfl)
theorem dX3_lineOf_17 : decode cX3_lineOf 17 = .ok (.if_icmp .ne 5, 3) := dk_160 0 5 (dk_at dksX3_lineOf_0 17 rfl rfl)
theorem dX3_lineOf_20 : decode cX3_lineOf 20 = .ok (.iload_n 2, 1) := dk_28 (dk_at dksX3_lineOf_0 20 rfl rfl)
theorem dX3_lineOf_21 : decode cX3_lineOf 21 = .ok (.ireturn, 1) := dk_172 (dk_at dksX3_lineOf_0 21 rfl rfl)
theorem dX3_lineOf_22 : decode cX3_lineOf 22 = .ok (.iinc 2 1, 3) := dk_132 2 1 (dk_at dksX3_lineOf_1 0 rfl rfl)
theorem dX3_lineOf_25 : decode cX3_lineOf 25 = .ok (.goto (-23), 3) := dk_167 255 233 (dk_at dksX3_lineOf_1 3 rfl rfl)
theorem dX3_lineOf_28 : decode cX3_lineOf 28 = .ok (.iconst (-1), 1) := dk_2 (dk_at dksX3_lineOf_1 6 rfl rfl)
theorem dX3_lineOf_29 : decode cX3_lineOf 29 = .ok (.ireturn, 1) := dk_172 (dk_at dksX3_lineOf_1 7 rfl rfl)
abbrev cX3_as : ByteArray := prog_7_method_2_code
def yX3_as : MethodName := ⟨RX3, "as", "(LRainWheel$Plan;)LRainWheel$Plan;"⟩
def dkwX3_as_1 : List UInt8 := [180, 0, 15, 3, 42, 180, 0, 15, 3, 16, 12, 184, 0, 22, 42, 176]
abbrev dktX3_as_1 : List UInt8 := dkwX3_as_1 ++ []
def dkwX3_as_0 : List UInt8 := [42, 43, 180, 0, 18, 181, 0, 18, 43, 180, 0, 9, 3, 42, 180, 0, 9, 3, 16, 12, 184, 0, 22, 43]
abbrev dktX3_as_0 : List UInt8 := dkwX3_as_0 ++ dktX3_as_1
theorem dksX3_as_0 : cX3_as.data.toList.drop 0 = dktX3_as_0 := by decide +kernel
theorem dksX3_as_1 : cX3_as.data.toList.drop 24 = dktX3_as_1 := dk_seg dksX3_as_0 24 rfl rfl
theorem dX3_as_0 : decode cX3_as 0 = .ok (.aload_n 0, 1) := dk_42 (dk_at dksX3_as_0 0 rfl rfl)
theorem dX3_as_1 : decode cX3_as 1 = .ok (.aload_n 1, 1) := dk_43 (dk_at dksX3_as_0 1 rfl rfl)
theorem dX3_as_2 : decode cX3_as 2 = .ok (.getfield 18, 3) := dk_180 0 18 (dk_at dksX3_as_0 2 rfl rfl)
theorem dX3_as_5 : decode cX3_as 5 = .ok (.putfield 18, 3) := dk_181 0 18 (dk_at dksX3_as_0 5 rfl rfl)
theorem dX3_as_8 : decode cX3_as 8 = .ok (.aload_n 1, 1) := dk_43 (dk_at dksX3_as_0 8 rfl rfl)
theorem dX3_as_9 : decode cX3_as 9 = .ok (.getfield 9, 3) := dk_180 0 9 (dk_at dksX3_as_0 9 rfl rfl)
theorem dX3_as_12 : decode cX3_as 12 = .ok (.iconst 0, 1) := dk_3 (dk_at dksX3_as_0 12 rfl rfl)
theorem dX3_as_13 : decode cX3_as 13 = .ok (.aload_n 0, 1) := dk_42 (dk_at dksX3_as_0 13 rfl rfl)
theorem dX3_as_14 : decode cX3_as 14 = .ok (.getfield 9, 3) := dk_180 0 9 (dk_at dksX3_as_0 14 rfl rfl)
theorem dX3_as_17 : decode cX3_as 17 = .ok (.iconst 0, 1) := dk_3 (dk_at dksX3_as_0 17 rfl rfl)
theorem dX3_as_18 : decode cX3_as 18 = .ok (.bipush 12, 2) := dk_16 12 (dk_at dksX3_as_0 18 rfl rfl)
theorem dX3_as_20 : decode cX3_as 20 = .ok (.invokestatic 22, 3) := dk_184 0 22 (dk_at dksX3_as_0 20 rfl rfl)
theorem dX3_as_23 : decode cX3_as 23 = .ok (.aload_n 1, 1) := dk_43 (dk_at dksX3_as_0 23 rfl rfl)
theorem dX3_as_24 : decode cX3_as 24 = .ok (.getfield 15, 3) := dk_180 0 15 (dk_at dksX3_as_1 0 rfl rfl)
theorem dX3_as_27 : decode cX3_as 27 = .ok (.iconst 0, 1) := dk_3 (dk_at dksX3_as_1 3 rfl rfl)
theorem dX3_as_28 : decode cX3_as 28 = .ok (.aload_n 0, 1) := dk_42 (dk_at dksX3_as_1 4 rfl rfl)
theorem dX3_as_29 : decode cX3_as 29 = .ok (.getfield 15, 3) := dk_180 0 15 (dk_at dksX3_as_1 5 rfl rfl)
theorem dX3_as_32 : decode cX3_as 32 = .ok (.iconst 0, 1) := dk_3 (dk_at dksX3_as_1 8 rfl rfl)
theorem dX3_as_33 : decode cX3_as 33 = .ok (.bipush 12, 2) := dk_16 12 (dk_at dksX3_as_1 9 rfl rfl)
theorem dX3_as_35 : decode cX3_as 35 = .ok (.invokestatic 22, 3) := dk_184 0 22 (dk_at dksX3_as_1 11 rfl rfl)
theorem dX3_as_38 : decode cX3_as 38 = .ok (.aload_n 0, 1) := dk_42 (dk_at dksX3_as_1 14 rfl rfl)
theorem dX3_as_39 : decode cX3_as 39 = .ok (.areturn, 1) := dk_176 (dk_at dksX3_as_1 15 rfl rfl)
abbrev cX3_reads : ByteArray := prog_7_method_4_code
def yX3_reads : MethodName := ⟨RX3, "reads", "(LRainWheel$Reader;LRainWheel$Road;)V"⟩
def dkwX3_reads_6 : List UInt8 := [89, 180, 0, 18, 90, 4, 96, 181, 0, 18, 21, 4, 79, 167, 255, 101, 177]
abbrev dktX3_reads_6 : List UInt8 := dkwX3_reads_6 ++ []
def dkwX3_reads_5 : List UInt8 := [54, 6, 43, 16, 59, 182, 0, 58, 42, 180, 0, 15, 42, 180, 0, 18, 21, 6, 79, 42, 180, 0, 9, 42]
abbrev dktX3_reads_5 : List UInt8 := dkwX3_reads_5 ++ dktX3_reads_6
def dkwX3_reads_4 : List UInt8 := [21, 5, 160, 0, 14, 187, 0, 50, 89, 5, 21, 7, 183, 0, 52, 191, 21, 6, 4, 21, 8, 120, 128]
abbrev dktX3_reads_4 : List UInt8 := dkwX3_reads_4 ++ dktX3_reads_5
def dkwX3_reads_3 : List UInt8 := [159, 0, 49, 43, 182, 0, 34, 54, 7, 43, 3, 44, 180, 0, 55, 4, 100, 182, 0, 42, 54, 8, 21, 8]
abbrev dktX3_reads_3 : List UInt8 := dkwX3_reads_3 ++ dktX3_reads_4
def dkwX3_reads_2 : List UInt8 := [44, 180, 0, 55, 4, 100, 182, 0, 42, 54, 5, 4, 21, 5, 120, 54, 6, 43, 182, 0, 28, 16, 59]
abbrev dktX3_reads_2 : List UInt8 := dkwX3_reads_2 ++ dktX3_reads_3
def dkwX3_reads_1 : List UInt8 := [54, 4, 42, 21, 4, 182, 0, 46, 2, 159, 0, 13, 187, 0, 50, 89, 5, 29, 183, 0, 52, 191, 43, 3]
abbrev dktX3_reads_1 : List UInt8 := dkwX3_reads_1 ++ dktX3_reads_2
def dkwX3_reads_0 : List UInt8 := [43, 182, 0, 28, 2, 159, 0, 153, 43, 182, 0, 34, 62, 43, 3, 44, 180, 0, 37, 4, 100, 182, 0, 42]
abbrev dktX3_reads_0 : List UInt8 := dkwX3_reads_0 ++ dktX3_reads_1
theorem dksX3_reads_0 : cX3_reads.data.toList.drop 0 = dktX3_reads_0 := by decide +kernel
theorem dksX3_reads_1 : cX3_reads.data.toList.drop 24 = dktX3_reads_1 := dk_seg dksX3_reads_0 24 rfl rfl
theorem dksX3_reads_2 : cX3_reads.data.toList.drop 48 = dktX3_reads_2 := dk_seg dksX3_reads_1 24 rfl rfl
theorem dksX3_reads_3 : cX3_reads.data.toList.drop 71 = dktX3_reads_3 := dk_seg dksX3_reads_2 23 rfl rfl
theorem dksX3_reads_4 : cX3_reads.data.toList.drop 95 = dktX3_reads_4 := dk_seg dksX3_reads_3 24 rfl rfl
theorem dksX3_reads_5 : cX3_reads.data.toList.drop 118 = dktX3_reads_5 := dk_seg dksX3_reads_4 23 rfl rfl
theorem dksX3_reads_6 : cX3_reads.data.toList.drop 142 = dktX3_reads_6 := dk_seg dksX3_reads_5 24 rfl rfl
theorem dX3_reads_0 : decode cX3_reads 0 = .ok (.aload_n 1, 1) := dk_43 (dk_at dksX3_reads_0 0 rfl rfl)
theorem dX3_reads_1 : decode cX3_reads 1 = .ok (.invokevirtual 28, 3) := dk_182 0 28 (dk_at dksX3_reads_0 1 rfl rfl)
theorem dX3_reads_4 : decode cX3_reads 4 = .ok (.iconst (-1), 1) := dk_2 (dk_at dksX3_reads_0 4 rfl rfl)
theorem dX3_reads_5 : decode cX3_reads 5 = .ok (.if_icmp .eq 153, 3) := dk_159 0 153 (dk_at dksX3_reads_0 5 rfl rfl)
theorem dX3_reads_8 : decode cX3_reads 8 = .ok (.aload_n 1, 1) := dk_43 (dk_at dksX3_reads_0 8 rfl rfl)
theorem dX3_reads_9 : decode cX3_reads 9 = .ok (.invokevirtual 34, 3) := dk_182 0 34 (dk_at dksX3_reads_0 9 rfl rfl)
theorem dX3_reads_12 : decode cX3_reads 12 = .ok (.istore_n 3, 1) := dk_62 (dk_at dksX3_reads_0 12 rfl rfl)
theorem dX3_reads_13 : decode cX3_reads 13 = .ok (.aload_n 1, 1) := dk_43 (dk_at dksX3_reads_0 13 rfl rfl)
theorem dX3_reads_14 : decode cX3_reads 14 = .ok (.iconst 0, 1) := dk_3 (dk_at dksX3_reads_0 14 rfl rfl)
theorem dX3_reads_15 : decode cX3_reads 15 = .ok (.aload_n 2, 1) := dk_44 (dk_at dksX3_reads_0 15 rfl rfl)
theorem dX3_reads_16 : decode cX3_reads 16 = .ok (.getfield 37, 3) := dk_180 0 37 (dk_at dksX3_reads_0 16 rfl rfl)
theorem dX3_reads_19 : decode cX3_reads 19 = .ok (.iconst 1, 1) := dk_4 (dk_at dksX3_reads_0 19 rfl rfl)
theorem dX3_reads_20 : decode cX3_reads 20 = .ok (.isub, 1) := dk_100 (dk_at dksX3_reads_0 20 rfl rfl)
theorem dX3_reads_21 : decode cX3_reads 21 = .ok (.invokevirtual 42, 3) := dk_182 0 42 (dk_at dksX3_reads_0 21 rfl rfl)
theorem dX3_reads_24 : decode cX3_reads 24 = .ok (.istore 4, 2) := dk_54 4 (dk_at dksX3_reads_1 0 rfl rfl)
theorem dX3_reads_26 : decode cX3_reads 26 = .ok (.aload_n 0, 1) := dk_42 (dk_at dksX3_reads_1 2 rfl rfl)
theorem dX3_reads_27 : decode cX3_reads 27 = .ok (.iload 4, 2) := dk_21 4 (dk_at dksX3_reads_1 3 rfl rfl)
theorem dX3_reads_29 : decode cX3_reads 29 = .ok (.invokevirtual 46, 3) := dk_182 0 46 (dk_at dksX3_reads_1 5 rfl rfl)
theorem dX3_reads_32 : decode cX3_reads 32 = .ok (.iconst (-1), 1) := dk_2 (dk_at dksX3_reads_1 8 rfl rfl)
theorem dX3_reads_33 : decode cX3_reads 33 = .ok (.if_icmp .eq 13, 3) := dk_159 0 13 (dk_at dksX3_reads_1 9 rfl rfl)
theorem dX3_reads_36 : decode cX3_reads 36 = .ok (.new 50, 3) := dk_187 0 50 (dk_at dksX3_reads_1 12 rfl rfl)
theorem dX3_reads_39 : decode cX3_reads 39 = .ok (.dup, 1) := dk_89 (dk_at dksX3_reads_1 15 rfl rfl)
theorem dX3_reads_40 : decode cX3_reads 40 = .ok (.iconst 2, 1) := dk_5 (dk_at dksX3_reads_1 16 rfl rfl)
theorem dX3_reads_41 : decode cX3_reads 41 = .ok (.iload_n 3, 1) := dk_29 (dk_at dksX3_reads_1 17 rfl rfl)
theorem dX3_reads_42 : decode cX3_reads 42 = .ok (.invokespecial 52, 3) := dk_183 0 52 (dk_at dksX3_reads_1 18 rfl rfl)
theorem dX3_reads_45 : decode cX3_reads 45 = .ok (.athrow, 1) := dk_191 (dk_at dksX3_reads_1 21 rfl rfl)
theorem dX3_reads_46 : decode cX3_reads 46 = .ok (.aload_n 1, 1) := dk_43 (dk_at dksX3_reads_1 22 rfl rfl)
theorem dX3_reads_47 : decode cX3_reads 47 = .ok (.iconst 0, 1) := dk_3 (dk_at dksX3_reads_1 23 rfl rfl)
theorem dX3_reads_48 : decode cX3_reads 48 = .ok (.aload_n 2, 1) := dk_44 (dk_at dksX3_reads_2 0 rfl rfl)
theorem dX3_reads_49 : decode cX3_reads 49 = .ok (.getfield 55, 3) := dk_180 0 55 (dk_at dksX3_reads_2 1 rfl rfl)
theorem dX3_reads_52 : decode cX3_reads 52 = .ok (.iconst 1, 1) := dk_4 (dk_at dksX3_reads_2 4 rfl rfl)
theorem dX3_reads_53 : decode cX3_reads 53 = .ok (.isub, 1) := dk_100 (dk_at dksX3_reads_2 5 rfl rfl)
theorem dX3_reads_54 : decode cX3_reads 54 = .ok (.invokevirtual 42, 3) := dk_182 0 42 (dk_at dksX3_reads_2 6 rfl rfl)
theorem dX3_reads_57 : decode cX3_reads 57 = .ok (.istore 5, 2) := dk_54 5 (dk_at dksX3_reads_2 9 rfl rfl)
theorem dX3_reads_59 : decode cX3_reads 59 = .ok (.iconst 1, 1) := dk_4 (dk_at dksX3_reads_2 11 rfl rfl)
theorem dX3_reads_60 : decode cX3_reads 60 = .ok (.iload 5, 2) := dk_21 5 (dk_at dksX3_reads_2 12 rfl rfl)
theorem dX3_reads_62 : decode cX3_reads 62 = .ok (.ishl, 1) := dk_120 (dk_at dksX3_reads_2 14 rfl rfl)
theorem dX3_reads_63 : decode cX3_reads 63 = .ok (.istore 6, 2) := dk_54 6 (dk_at dksX3_reads_2 15 rfl rfl)
theorem dX3_reads_65 : decode cX3_reads 65 = .ok (.aload_n 1, 1) := dk_43 (dk_at dksX3_reads_2 17 rfl rfl)
theorem dX3_reads_66 : decode cX3_reads 66 = .ok (.invokevirtual 28, 3) := dk_182 0 28 (dk_at dksX3_reads_2 18 rfl rfl)
theorem dX3_reads_69 : decode cX3_reads 69 = .ok (.bipush 59, 2) := dk_16 59 (dk_at dksX3_reads_2 21 rfl rfl)
theorem dX3_reads_71 : decode cX3_reads 71 = .ok (.if_icmp .eq 49, 3) := dk_159 0 49 (dk_at dksX3_reads_3 0 rfl rfl)
theorem dX3_reads_74 : decode cX3_reads 74 = .ok (.aload_n 1, 1) := dk_43 (dk_at dksX3_reads_3 3 rfl rfl)
theorem dX3_reads_75 : decode cX3_reads 75 = .ok (.invokevirtual 34, 3) := dk_182 0 34 (dk_at dksX3_reads_3 4 rfl rfl)
theorem dX3_reads_78 : decode cX3_reads 78 = .ok (.istore 7, 2) := dk_54 7 (dk_at dksX3_reads_3 7 rfl rfl)
theorem dX3_reads_80 : decode cX3_reads 80 = .ok (.aload_n 1, 1) := dk_43 (dk_at dksX3_reads_3 9 rfl rfl)
theorem dX3_reads_81 : decode cX3_reads 81 = .ok (.iconst 0, 1) := dk_3 (dk_at dksX3_reads_3 10 rfl rfl)
theorem dX3_reads_82 : decode cX3_reads 82 = .ok (.aload_n 2, 1) := dk_44 (dk_at dksX3_reads_3 11 rfl rfl)
theorem dX3_reads_83 : decode cX3_reads 83 = .ok (.getfield 55, 3) := dk_180 0 55 (dk_at dksX3_reads_3 12 rfl rfl)
theorem dX3_reads_86 : decode cX3_reads 86 = .ok (.iconst 1, 1) := dk_4 (dk_at dksX3_reads_3 15 rfl rfl)
theorem dX3_reads_87 : decode cX3_reads 87 = .ok (.isub, 1) := dk_100 (dk_at dksX3_reads_3 16 rfl rfl)
theorem dX3_reads_88 : decode cX3_reads 88 = .ok (.invokevirtual 42, 3) := dk_182 0 42 (dk_at dksX3_reads_3 17 rfl rfl)
theorem dX3_reads_91 : decode cX3_reads 91 = .ok (.istore 8, 2) := dk_54 8 (dk_at dksX3_reads_3 20 rfl rfl)
theorem dX3_reads_93 : decode cX3_reads 93 = .ok (.iload 8, 2) := dk_21 8 (dk_at dksX3_reads_3 22 rfl rfl)
theorem dX3_reads_95 : decode cX3_reads 95 = .ok (.iload 5, 2) := dk_21 5 (dk_at dksX3_reads_4 0 rfl rfl)
theorem dX3_reads_97 : decode cX3_reads 97 = .ok (.if_icmp .ne 14, 3) := dk_160 0 14 (dk_at dksX3_reads_4 2 rfl rfl)
theorem dX3_reads_100 : decode cX3_reads 100 = .ok (.new 50, 3) := dk_187 0 50 (dk_at dksX3_reads_4 5 rfl rfl)
theorem dX3_reads_103 : decode cX3_reads 103 = .ok (.dup, 1) := dk_89 (dk_at dksX3_reads_4 8 rfl rfl)
theorem dX3_reads_104 : decode cX3_reads 104 = .ok (.iconst 2, 1) := dk_5 (dk_at dksX3_reads_4 9 rfl rfl)
theorem dX3_reads_105 : decode cX3_reads 105 = .ok (.iload 7, 2) := dk_21 7 (dk_at dksX3_reads_4 10 rfl rfl)
theorem dX3_reads_107 : decode cX3_reads 107 = .ok (.invokespecial 52, 3) := dk_183 0 52 (dk_at dksX3_reads_4 12 rfl rfl)
theorem dX3_reads_110 : decode cX3_reads 110 = .ok (.athrow, 1) := dk_191 (dk_at dksX3_reads_4 15 rfl rfl)
theorem dX3_reads_111 : decode cX3_reads 111 = .ok (.iload 6, 2) := dk_21 6 (dk_at dksX3_reads_4 16 rfl rfl)
theorem dX3_reads_113 : decode cX3_reads 113 = .ok (.iconst 1, 1) := dk_4 (dk_at dksX3_reads_4 18 rfl rfl)
theorem dX3_reads_114 : decode cX3_reads 114 = .ok (.iload 8, 2) := dk_21 8 (dk_at dksX3_reads_4 19 rfl rfl)
theorem dX3_reads_116 : decode cX3_reads 116 = .ok (.ishl, 1) := dk_120 (dk_at dksX3_reads_4 21 rfl rfl)
theorem dX3_reads_117 : decode cX3_reads 117 = .ok (.ior, 1) := dk_128 (dk_at dksX3_reads_4 22 rfl rfl)
theorem dX3_reads_118 : decode cX3_reads 118 = .ok (.istore 6, 2) := dk_54 6 (dk_at dksX3_reads_5 0 rfl rfl)
theorem dX3_reads_120 : decode cX3_reads 120 = .ok (.aload_n 1, 1) := dk_43 (dk_at dksX3_reads_5 2 rfl rfl)
theorem dX3_reads_121 : decode cX3_reads 121 = .ok (.bipush 59, 2) := dk_16 59 (dk_at dksX3_reads_5 3 rfl rfl)
theorem dX3_reads_123 : decode cX3_reads 123 = .ok (.invokevirtual 58, 3) := dk_182 0 58 (dk_at dksX3_reads_5 5 rfl rfl)
theorem dX3_reads_126 : decode cX3_reads 126 = .ok (.aload_n 0, 1) := dk_42 (dk_at dksX3_reads_5 8 rfl rfl)
theorem dX3_reads_127 : decode cX3_reads 127 = .ok (.getfield 15, 3) := dk_180 0 15 (dk_at dksX3_reads_5 9 rfl rfl)
theorem dX3_reads_130 : decode cX3_reads 130 = .ok (.aload_n 0, 1) := dk_42 (dk_at dksX3_reads_5 12 rfl rfl)
theorem dX3_reads_131 : decode cX3_reads 131 = .ok (.getfield 18, 3) := dk_180 0 18 (dk_at dksX3_reads_5 13 rfl rfl)
theorem dX3_reads_134 : decode cX3_reads 134 = .ok (.iload 6, 2) := dk_21 6 (dk_at dksX3_reads_5 16 rfl rfl)
theorem dX3_reads_136 : decode cX3_reads 136 = .ok (.iastore, 1) := dk_79 (dk_at dksX3_reads_5 18 rfl rfl)
theorem dX3_reads_137 : decode cX3_reads 137 = .ok (.aload_n 0, 1) := dk_42 (dk_at dksX3_reads_5 19 rfl rfl)
theorem dX3_reads_138 : decode cX3_reads 138 = .ok (.getfield 9, 3) := dk_180 0 9 (dk_at dksX3_reads_5 20 rfl rfl)
theorem dX3_reads_141 : decode cX3_reads 141 = .ok (.aload_n 0, 1) := dk_42 (dk_at dksX3_reads_5 23 rfl rfl)
theorem dX3_reads_142 : decode cX3_reads 142 = .ok (.dup, 1) := dk_89 (dk_at dksX3_reads_6 0 rfl rfl)
theorem dX3_reads_143 : decode cX3_reads 143 = .ok (.getfield 18, 3) := dk_180 0 18 (dk_at dksX3_reads_6 1 rfl rfl)
theorem dX3_reads_146 : decode cX3_reads 146 = .ok (.dup_x1, 1) := dk_90 (dk_at dksX3_reads_6 4 rfl rfl)
theorem dX3_reads_147 : decode cX3_reads 147 = .ok (.iconst 1, 1) := dk_4 (dk_at dksX3_reads_6 5 rfl rfl)
theorem dX3_reads_148 : decode cX3_reads 148 = .ok (.iadd, 1) := dk_96 (dk_at dksX3_reads_6 6 rfl rfl)
theorem dX3_reads_149 : decode cX3_reads 149 = .ok (.putfield 18, 3) := dk_181 0 18 (dk_at dksX3_reads_6 7 rfl rfl)
theorem dX3_reads_152 : decode cX3_reads 152 = .ok (.iload 4, 2) := dk_21 4 (dk_at dksX3_reads_6 10 rfl rfl)
theorem dX3_reads_154 : decode cX3_reads 154 = .ok (.iastore, 1) := dk_79 (dk_at dksX3_reads_6 12 rfl rfl)
theorem dX3_reads_155 : decode cX3_reads 155 = .ok (.goto (-155), 3) := dk_167 255 101 (dk_at dksX3_reads_6 13 rfl rfl)
theorem dX3_reads_158 : decode cX3_reads 158 = .ok (.return_, 1) := dk_177 (dk_at dksX3_reads_6 16 rfl rfl)
abbrev cX3_swaps : ByteArray := prog_7_method_5_code
def yX3_swaps : MethodName := ⟨RX3, "swaps", "(II)V"⟩
def dkwX3_swaps_0 : List UInt8 := [42, 180, 0, 9, 27, 28, 184, 0, 62, 42, 180, 0, 15, 27, 28, 184, 0, 62, 177]
abbrev dktX3_swaps_0 : List UInt8 := dkwX3_swaps_0 ++ []
theorem dksX3_swaps_0 : cX3_swaps.data.toList.drop 0 = dktX3_swaps_0 := by decide +kernel
theorem dX3_swaps_0 : decode cX3_swaps 0 = .ok (.aload_n 0, 1) := dk_42 (dk_at dksX3_swaps_0 0 rfl rfl)
theorem dX3_swaps_1 : decode cX3_swaps 1 = .ok (.getfield 9, 3) := dk_180 0 9 (dk_at dksX3_swaps_0 1 rfl rfl)
theorem dX3_swaps_4 : decode cX3_swaps 4 = .ok (.iload_n 1, 1) := dk_27 (dk_at dksX3_swaps_0 4 rfl rfl)
theorem dX3_swaps_5 : decode cX3_swaps 5 = .ok (.iload_n 2, 1) := dk_28 (dk_at dksX3_swaps_0 5 rfl rfl)
theorem dX3_swaps_6 : decode cX3_swaps 6 = .ok (.invokestatic 62, 3) := dk_184 0 62 (dk_at dksX3_swaps_0 6 rfl rfl)
theorem dX3_swaps_9 : decode cX3_swaps 9 = .ok (.aload_n 0, 1) := dk_42 (dk_at dksX3_swaps_0 9 rfl rfl)
theorem dX3_swaps_10 : decode cX3_swaps 10 = .ok (.getfield 15, 3) := dk_180 0 15 (dk_at dksX3_swaps_0 10 rfl rfl)
theorem dX3_swaps_13 : decode cX3_swaps 13 = .ok (.iload_n 1, 1) := dk_27 (dk_at dksX3_swaps_0 13 rfl rfl)
theorem dX3_swaps_14 : decode cX3_swaps 14 = .ok (.iload_n 2, 1) := dk_28 (dk_at dksX3_swaps_0 14 rfl rfl)
theorem dX3_swaps_15 : decode cX3_swaps 15 = .ok (.invokestatic 62, 3) := dk_184 0 62 (dk_at dksX3_swaps_0 15 rfl rfl)
theorem dX3_swaps_18 : decode cX3_swaps 18 = .ok (.return_, 1) := dk_177 (dk_at dksX3_swaps_0 18 rfl rfl)
abbrev cX3_flips : ByteArray := prog_7_method_6_code
def yX3_flips : MethodName := ⟨RX3, "flips", "([III)V"⟩
def dkwX3_flips_0 : List UInt8 := [42, 27, 46, 62, 42, 27, 42, 28, 46, 79, 42, 28, 29, 79, 177]
abbrev dktX3_flips_0 : List UInt8 := dkwX3_flips_0 ++ []
theorem dksX3_flips_0 : cX3_flips.data.toList.drop 0 = dktX3_flips_0 := by decide +kernel
theorem dX3_flips_0 : decode cX3_flips 0 = .ok (.aload_n 0, 1) := dk_42 (dk_at dksX3_flips_0 0 rfl rfl)
theorem dX3_flips_1 : decode cX3_flips 1 = .ok (.iload_n 1, 1) := dk_27 (dk_at dksX3_flips_0 1 rfl rfl)
theorem dX3_flips_2 : decode cX3_flips 2 = .ok (.iaload, 1) := dk_46 (dk_at dksX3_flips_0 2 rfl rfl)
theorem dX3_flips_3 : decode cX3_flips 3 = .ok (.istore_n 3, 1) := dk_62 (dk_at dksX3_flips_0 3 rfl rfl)
theorem dX3_flips_4 : decode cX3_flips 4 = .ok (.aload_n 0, 1) := dk_42 (dk_at dksX3_flips_0 4 rfl rfl)
theorem dX3_flips_5 : decode cX3_flips 5 = .ok (.iload_n 1, 1) := dk_27 (dk_at dksX3_flips_0 5 rfl rfl)
theorem dX3_flips_6 : decode cX3_flips 6 = .ok (.aload_n 0, 1) := dk_42 (dk_at dksX3_flips_0 6 rfl rfl)
theorem dX3_flips_7 : decode cX3_flips 7 = .ok (.iload_n 2, 1) := dk_28 (dk_at dksX3_flips_0 7 rfl rfl)
theorem dX3_flips_8 : decode cX3_flips 8 = .ok (.iaload, 1) := dk_46 (dk_at dksX3_flips_0 8 rfl rfl)
theorem dX3_flips_9 : decode cX3_flips 9 = .ok (.iastore, 1) := dk_79 (dk_at dksX3_flips_0 9 rfl rfl)
theorem dX3_flips_10 : decode cX3_flips 10 = .ok (.aload_n 0, 1) := dk_42 (dk_at dksX3_flips_0 10 rfl rfl)
theorem dX3_flips_11 : decode cX3_flips 11 = .ok (.iload_n 2, 1) := dk_28 (dk_at dksX3_flips_0 11 rfl rfl)
theorem dX3_flips_12 : decode cX3_flips 12 = .ok (.iload_n 3, 1) := dk_29 (dk_at dksX3_flips_0 12 rfl rfl)
theorem dX3_flips_13 : decode cX3_flips 13 = .ok (.iastore, 1) := dk_79 (dk_at dksX3_flips_0 13 rfl rfl)
theorem dX3_flips_14 : decode cX3_flips 14 = .ok (.return_, 1) := dk_177 (dk_at dksX3_flips_0 14 rfl rfl)
abbrev cX3_drops : ByteArray := prog_7_method_7_code
def yX3_drops : MethodName := ⟨RX3, "drops", "(I)V"⟩
def dkwX3_drops_2 : List UInt8 := [132, 2, 1, 167, 255, 217, 177]
abbrev dktX3_drops_2 : List UInt8 := dkwX3_drops_2 ++ []
def dkwX3_drops_1 : List UInt8 := [28, 42, 180, 0, 9, 28, 4, 96, 46, 79, 42, 180, 0, 15, 28, 42, 180, 0, 15, 28, 4, 96, 46, 79]
abbrev dktX3_drops_1 : List UInt8 := dkwX3_drops_1 ++ dktX3_drops_2
def dkwX3_drops_0 : List UInt8 := [42, 89, 180, 0, 18, 4, 100, 181, 0, 18, 27, 61, 28, 42, 180, 0, 18, 162, 0, 37, 42, 180, 0, 9]
abbrev dktX3_drops_0 : List UInt8 := dkwX3_drops_0 ++ dktX3_drops_1
theorem dksX3_drops_0 : cX3_drops.data.toList.drop 0 = dktX3_drops_0 := by decide +kernel
theorem dksX3_drops_1 : cX3_drops.data.toList.drop 24 = dktX3_drops_1 := dk_seg dksX3_drops_0 24 rfl rfl
theorem dksX3_drops_2 : cX3_drops.data.toList.drop 48 = dktX3_drops_2 := dk_seg dksX3_drops_1 24 rfl rfl
theorem dX3_drops_0 : decode cX3_drops 0 = .ok (.aload_n 0, 1) := dk_42 (dk_at dksX3_drops_0 0 rfl rfl)
theorem dX3_drops_1 : decode cX3_drops 1 = .ok (.dup, 1) := dk_89 (dk_at dksX3_drops_0 1 rfl rfl)
theorem dX3_drops_2 : decode cX3_drops 2 = .ok (.getfield 18, 3) := dk_180 0 18 (dk_at dksX3_drops_0 2 rfl rfl)
theorem dX3_drops_5 : decode cX3_drops 5 = .ok (.iconst 1, 1) := dk_4 (dk_at dksX3_drops_0 5 rfl rfl)
theorem dX3_drops_6 : decode cX3_drops 6 = .ok (.isub, 1) := dk_100 (dk_at dksX3_drops_0 6 rfl rfl)
theorem dX3_drops_7 : decode cX3_drops 7 = .ok (.putfield 18, 3) := dk_181 0 18 (dk_at dksX3_drops_0 7 rfl rfl)
theorem dX3_drops_10 : decode cX3_drops 10 = .ok (.iload_n 1, 1) := dk_27 (dk_at dksX3_drops_0 10 rfl rfl)
theorem dX3_drops_11 : decode cX3_drops 11 = .ok (.istore_n 2, 1) := dk_61 (dk_at dksX3_drops_0 11 rfl rfl)
theorem dX3_drops_12 : decode cX3_drops 12 = .ok (.iload_n 2, 1) := dk_28 (dk_at dksX3_drops_0 12 rfl rfl)
theorem dX3_drops_13 : decode cX3_drops 13 = .ok (.aload_n 0, 1) := dk_42 (dk_at dksX3_drops_0 13 rfl rfl)
theorem dX3_drops_14 : decode cX3_drops 14 = .ok (.getfield 18, 3) := dk_180 0 18 (dk_at dksX3_drops_0 14 rfl rfl)
theorem dX3_drops_17 : decode cX3_drops 17 = .ok (.if_icmp .ge 37, 3) := dk_162 0 37 (dk_at dksX3_drops_0 17 rfl rfl)
theorem dX3_drops_20 : decode cX3_drops 20 = .ok (.aload_n 0, 1) := dk_42 (dk_at dksX3_drops_0 20 rfl rfl)
theorem dX3_drops_21 : decode cX3_drops 21 = .ok (.getfield 9, 3) := dk_180 0 9 (dk_at dksX3_drops_0 21 rfl rfl)
theorem dX3_drops_24 : decode cX3_drops 24 = .ok (.iload_n 2, 1) := dk_28 (dk_at dksX3_drops_1 0 rfl rfl)
theorem dX3_drops_25 : decode cX3_drops 25 = .ok (.aload_n 0, 1) := dk_42 (dk_at dksX3_drops_1 1 rfl rfl)
theorem dX3_drops_26 : decode cX3_drops 26 = .ok (.getfield 9, 3) := dk_180 0 9 (dk_at dksX3_drops_1 2 rfl rfl)
theorem dX3_drops_29 : decode cX3_drops 29 = .ok (.iload_n 2, 1) := dk_28 (dk_at dksX3_drops_1 5 rfl rfl)
theorem dX3_drops_30 : decode cX3_drops 30 = .ok (.iconst 1, 1) := dk_4 (dk_at dksX3_drops_1 6 rfl rfl)
theorem dX3_drops_31 : decode cX3_drops 31 = .ok (.iadd, 1) := dk_96 (dk_at dksX3_drops_1 7 rfl rfl)
theorem dX3_drops_32 : decode cX3_drops 32 = .ok (.iaload, 1) := dk_46 (dk_at dksX3_drops_1 8 rfl rfl)
theorem dX3_drops_33 : decode cX3_drops 33 = .ok (.iastore, 1) := dk_79 (dk_at dksX3_drops_1 9 rfl rfl)
theorem dX3_drops_34 : decode cX3_drops 34 = .ok (.aload_n 0, 1) := dk_42 (dk_at dksX3_drops_1 10 rfl rfl)
theorem dX3_drops_35 : decode cX3_drops 35 = .ok (.getfield 15, 3) := dk_180 0 15 (dk_at dksX3_drops_1 11 rfl rfl)
theorem dX3_drops_38 : decode cX3_drops 38 = .ok (.iload_n 2, 1) := dk_28 (dk_at dksX3_drops_1 14 rfl rfl)
theorem dX3_drops_39 : decode cX3_drops 39 = .ok (.aload_n 0, 1) := dk_42 (dk_at dksX3_drops_1 15 rfl rfl)
theorem dX3_drops_40 : decode cX3_drops 40 = .ok (.getfield 15, 3) := dk_180 0 15 (dk_at dksX3_drops_1 16 rfl rfl)
theorem dX3_drops_43 : decode cX3_drops 43 = .ok (.iload_n 2, 1) := dk_28 (dk_at dksX3_drops_1 19 rfl rfl)
theorem dX3_drops_44 : decode cX3_drops 44 = .ok (.iconst 1, 1) := dk_4 (dk_at dksX3_drops_1 20 rfl rfl)
theorem dX3_drops_45 : decode cX3_drops 45 = .ok (.iadd, 1) := dk_96 (dk_at dksX3_drops_1 21 rfl rfl)
theorem dX3_drops_46 : decode cX3_drops 46 = .ok (.iaload, 1) := dk_46 (dk_at dksX3_drops_1 22 rfl rfl)
theorem dX3_drops_47 : decode cX3_drops 47 = .ok (.iastore, 1) := dk_79 (dk_at dksX3_drops_1 23 rfl rfl)
theorem dX3_drops_48 : decode cX3_drops 48 = .ok (.iinc 2 1, 3) := dk_132 2 1 (dk_at dksX3_drops_2 0 rfl rfl)
theorem dX3_drops_51 : decode cX3_drops 51 = .ok (.goto (-39), 3) := dk_167 255 217 (dk_at dksX3_drops_2 3 rfl rfl)
theorem dX3_drops_54 : decode cX3_drops 54 = .ok (.return_, 1) := dk_177 (dk_at dksX3_drops_2 6 rfl rfl)
theorem q98 : (Jvm.Cond.initialized "RainWheel$Plan") ∈ lw_all := lw_g (lw_at lw_m1 3 rfl) rfl
theorem q147 : (Jvm.Cond.instantiable "RainWheel$Plan" (3 : Nat)) ∈ lw_all := lw_g (lw_at lw_m1 52 rfl) rfl
theorem q149 : (Jvm.Cond.instanceMethod ({ cls := "RainWheel$Plan", name := "<init>", desc := "()V" } : Jvm.MethodName)) ∈ lw_all := lw_g (lw_at lw_m1 54 rfl) rfl
theorem q150 : (Jvm.Cond.code ({ cls := "RainWheel$Plan", name := "<init>", desc := "()V" } : Jvm.MethodName) prog_7_method_1_code (1 : Nat) (Option.none : Option Jvm.ClassFile.FieldType)) ∈ lw_all := lw_g (lw_at lw_m1 55 rfl) rfl
theorem q151 : (Jvm.Cond.methodLink "RainWheel$Plan" (3 : Nat) ({ cls := "java/lang/Object", name := "<init>", desc := "()V" } : Jvm.MethodName)) ∈ lw_all := lw_g (lw_at lw_m1 56 rfl) rfl
theorem q152 : (Jvm.Cond.fieldLink "RainWheel$Plan" (9 : Nat) "RainWheel$Plan" "deed" "[I") ∈ lw_all := lw_g (lw_at lw_m1 57 rfl) rfl
theorem q155 : (Jvm.Cond.fieldLink "RainWheel$Plan" (15 : Nat) "RainWheel$Plan" "who" "[I") ∈ lw_all := lw_g (lw_at lw_m1 60 rfl) rfl
theorem q158 : (Jvm.Cond.fieldLink "RainWheel$Plan" (18 : Nat) "RainWheel$Plan" "lines" "I") ∈ lw_all := lw_g (lw_at lw_m1 63 rfl) rfl
theorem q161 : (Jvm.Cond.laysFinal "RainWheel$Plan" "RainWheel$Plan" "deed" "[I") ∈ lw_all := lw_g (lw_at lw_m1 66 rfl) rfl
theorem q162 : (Jvm.Cond.soleField "RainWheel$Plan" "deed") ∈ lw_all := lw_g (lw_at lw_m1 67 rfl) rfl
theorem q163 : (Jvm.Cond.laysFinal "RainWheel$Plan" "RainWheel$Plan" "who" "[I") ∈ lw_all := lw_g (lw_at lw_m1 68 rfl) rfl
theorem q164 : (Jvm.Cond.soleField "RainWheel$Plan" "who") ∈ lw_all := lw_g (lw_at lw_m1 69 rfl) rfl
theorem q165 : (Jvm.Cond.lays "RainWheel$Plan" "RainWheel$Plan" "lines" "I") ∈ lw_all := lw_g (lw_at lw_m1 70 rfl) rfl
theorem q166 : (Jvm.Cond.soleField "RainWheel$Plan" "lines") ∈ lw_all := lw_g (lw_at lw_m1 71 rfl) rfl
theorem q167 : (Jvm.Cond.superclass "RainWheel$Plan" "java/lang/Object") ∈ lw_all := lw_g (lw_at lw_m1 72 rfl) rfl
theorem q398 : (Jvm.Cond.fieldLinkNest "RainWheel$Plan" (55 : Nat) "RainWheel$Road" "people" "I" "RainWheel") ∈ lw_tbl := lw_at lw_m2 63 rfl
theorem q403 : (Jvm.Cond.fieldLinkNest "RainWheel$Plan" (37 : Nat) "RainWheel$Road" "deeds" "I" "RainWheel") ∈ lw_tbl := lw_at lw_m2 68 rfl
theorem q655 : (Jvm.Cond.instanceMethod ({ cls := "RainWheel$Plan", name := "lineOf", desc := "(I)I" } : Jvm.MethodName)) ∈ lw_all := lw_g (lw_at lw_m3 80 rfl) rfl
theorem q656 : (Jvm.Cond.selects "RainWheel$Plan" ({ cls := "RainWheel$Plan", name := "lineOf", desc := "(I)I" } : Jvm.MethodName) ({ cls := "RainWheel$Plan", name := "lineOf", desc := "(I)I" } : Jvm.MethodName)) ∈ lw_all := lw_g (lw_at lw_m3 81 rfl) rfl
theorem q657 : (Jvm.Cond.code ({ cls := "RainWheel$Plan", name := "lineOf", desc := "(I)I" } : Jvm.MethodName) prog_7_method_3_code (3 : Nat) (Option.some Jvm.ClassFile.FieldType.int)) ∈ lw_all := lw_g (lw_at lw_m3 82 rfl) rfl
theorem q684 : (Jvm.Cond.instanceMethod ({ cls := "RainWheel$Plan", name := "as", desc := "(LRainWheel$Plan;)LRainWheel$Plan;" } : Jvm.MethodName)) ∈ lw_all := lw_g (lw_at lw_m3 109 rfl) rfl
theorem q685 : (Jvm.Cond.selects "RainWheel$Plan" ({ cls := "RainWheel$Plan", name := "as", desc := "(LRainWheel$Plan;)LRainWheel$Plan;" } : Jvm.MethodName) ({ cls := "RainWheel$Plan", name := "as", desc := "(LRainWheel$Plan;)LRainWheel$Plan;" } : Jvm.MethodName)) ∈ lw_all := lw_g (lw_at lw_m3 110 rfl) rfl
theorem q686 : (Jvm.Cond.code ({ cls := "RainWheel$Plan", name := "as", desc := "(LRainWheel$Plan;)LRainWheel$Plan;" } : Jvm.MethodName) prog_7_method_2_code (2 : Nat) (Option.some (Jvm.ClassFile.FieldType.object "RainWheel$Plan"))) ∈ lw_all := lw_g (lw_at lw_m3 111 rfl) rfl
theorem q687 : (Jvm.Cond.methodLink "RainWheel$Plan" (22 : Nat) ({ cls := "java/lang/System", name := "arraycopy", desc := "(Ljava/lang/Object;ILjava/lang/Object;II)V" } : Jvm.MethodName)) ∈ lw_all := lw_g (lw_at lw_m3 112 rfl) rfl
theorem q1102 : (Jvm.Cond.instanceMethod ({ cls := "RainWheel$Plan", name := "reads", desc := "(LRainWheel$Reader;LRainWheel$Road;)V" } : Jvm.MethodName)) ∈ lw_all := lw_g (lw_at lw_m5 47 rfl) rfl
theorem q1103 : (Jvm.Cond.selects "RainWheel$Plan" ({ cls := "RainWheel$Plan", name := "reads", desc := "(LRainWheel$Reader;LRainWheel$Road;)V" } : Jvm.MethodName) ({ cls := "RainWheel$Plan", name := "reads", desc := "(LRainWheel$Reader;LRainWheel$Road;)V" } : Jvm.MethodName)) ∈ lw_all := lw_g (lw_at lw_m5 48 rfl) rfl
theorem q1104 : (Jvm.Cond.code ({ cls := "RainWheel$Plan", name := "reads", desc := "(LRainWheel$Reader;LRainWheel$Road;)V" } : Jvm.MethodName) prog_7_method_4_code (9 : Nat) (Option.none : Option Jvm.ClassFile.FieldType)) ∈ lw_all := lw_g (lw_at lw_m5 49 rfl) rfl
theorem q1105 : (Jvm.Cond.methodLink "RainWheel$Plan" (28 : Nat) ({ cls := "RainWheel$Reader", name := "now", desc := "()I" } : Jvm.MethodName)) ∈ lw_all := lw_g (lw_at lw_m5 50 rfl) rfl
theorem q1106 : (Jvm.Cond.methodLink "RainWheel$Plan" (34 : Nat) ({ cls := "RainWheel$Reader", name := "place", desc := "()I" } : Jvm.MethodName)) ∈ lw_all := lw_g (lw_at lw_m5 51 rfl) rfl
theorem q1107 : (Jvm.Cond.methodLink "RainWheel$Plan" (42 : Nat) ({ cls := "RainWheel$Reader", name := "number", desc := "(II)I" } : Jvm.MethodName)) ∈ lw_all := lw_g (lw_at lw_m5 52 rfl) rfl
theorem q1108 : (Jvm.Cond.methodLink "RainWheel$Plan" (46 : Nat) ({ cls := "RainWheel$Plan", name := "lineOf", desc := "(I)I" } : Jvm.MethodName)) ∈ lw_all := lw_g (lw_at lw_m5 53 rfl) rfl
theorem q1109 : (Jvm.Cond.classLink "RainWheel$Plan" (50 : Nat) "RainWheel$Wrong") ∈ lw_all := lw_g (lw_at lw_m5 54 rfl) rfl
theorem q1110 : (Jvm.Cond.methodLink "RainWheel$Plan" (52 : Nat) ({ cls := "RainWheel$Wrong", name := "<init>", desc := "(II)V" } : Jvm.MethodName)) ∈ lw_all := lw_g (lw_at lw_m5 55 rfl) rfl
theorem q1111 : (Jvm.Cond.methodLink "RainWheel$Plan" (58 : Nat) ({ cls := "RainWheel$Reader", name := "sign", desc := "(C)V" } : Jvm.MethodName)) ∈ lw_all := lw_g (lw_at lw_m5 56 rfl) rfl
theorem q1502 : (Jvm.Cond.instanceMethod ({ cls := "RainWheel$Plan", name := "swaps", desc := "(II)V" } : Jvm.MethodName)) ∈ lw_all := lw_g (lw_at lw_m6 207 rfl) rfl
theorem q1503 : (Jvm.Cond.selects "RainWheel$Plan" ({ cls := "RainWheel$Plan", name := "swaps", desc := "(II)V" } : Jvm.MethodName) ({ cls := "RainWheel$Plan", name := "swaps", desc := "(II)V" } : Jvm.MethodName)) ∈ lw_all := lw_g (lw_at lw_m6 208 rfl) rfl
theorem q1504 : (Jvm.Cond.code ({ cls := "RainWheel$Plan", name := "swaps", desc := "(II)V" } : Jvm.MethodName) prog_7_method_5_code (3 : Nat) (Option.none : Option Jvm.ClassFile.FieldType)) ∈ lw_all := lw_g (lw_at lw_m6 209 rfl) rfl
theorem q1505 : (Jvm.Cond.methodLink "RainWheel$Plan" (62 : Nat) ({ cls := "RainWheel$Plan", name := "flips", desc := "([III)V" } : Jvm.MethodName)) ∈ lw_all := lw_g (lw_at lw_m6 210 rfl) rfl
theorem q1506 : (Jvm.Cond.static ({ cls := "RainWheel$Plan", name := "flips", desc := "([III)V" } : Jvm.MethodName)) ∈ lw_all := lw_g (lw_at lw_m6 211 rfl) rfl
theorem q1507 : (Jvm.Cond.code ({ cls := "RainWheel$Plan", name := "flips", desc := "([III)V" } : Jvm.MethodName) prog_7_method_6_code (4 : Nat) (Option.none : Option Jvm.ClassFile.FieldType)) ∈ lw_all := lw_g (lw_at lw_m6 212 rfl) rfl
theorem q1523 : (Jvm.Cond.instanceMethod ({ cls := "RainWheel$Plan", name := "drops", desc := "(I)V" } : Jvm.MethodName)) ∈ lw_all := lw_g (lw_at lw_m6 228 rfl) rfl
theorem q1524 : (Jvm.Cond.selects "RainWheel$Plan" ({ cls := "RainWheel$Plan", name := "drops", desc := "(I)V" } : Jvm.MethodName) ({ cls := "RainWheel$Plan", name := "drops", desc := "(I)V" } : Jvm.MethodName)) ∈ lw_all := lw_g (lw_at lw_m6 229 rfl) rfl
theorem q1525 : (Jvm.Cond.code ({ cls := "RainWheel$Plan", name := "drops", desc := "(I)V" } : Jvm.MethodName) prog_7_method_7_code (3 : Nat) (Option.none : Option Jvm.ClassFile.FieldType)) ∈ lw_all := lw_g (lw_at lw_m6 230 rfl) rfl
theorem q2253 : (Jvm.Cond.castable "RainWheel$Plan" "java/lang/Object") ∈ lw_tbl := lw_at lw_m9 238 rfl

abbrev cX4_init : ByteArray := prog_16_method_1_code
def yX4_init : MethodName := ⟨RX4, "<init>", "(LRainWheel$Law;)V"⟩
def dkwX4_init_3 : List UInt8 := [177]
abbrev dktX4_init_3 : List UInt8 := dkwX4_init_3 ++ []
def dkwX4_init_2 : List UInt8 := [181, 0, 27, 42, 187, 0, 30, 89, 183, 0, 32, 181, 0, 33, 42, 2, 181, 0, 37, 42, 43, 181, 0, 41]
abbrev dktX4_init_2 : List UInt8 := dkwX4_init_2 ++ dktX4_init_3
def dkwX4_init_1 : List UInt8 := [188, 10, 181, 0, 18, 42, 7, 188, 10, 181, 0, 21, 42, 7, 188, 10, 181, 0, 24, 42, 7, 188, 10]
abbrev dktX4_init_1 : List UInt8 := dkwX4_init_1 ++ dktX4_init_2
def dkwX4_init_0 : List UInt8 := [42, 183, 0, 3, 42, 16, 12, 188, 10, 181, 0, 9, 42, 16, 12, 188, 10, 181, 0, 15, 42, 16, 12]
abbrev dktX4_init_0 : List UInt8 := dkwX4_init_0 ++ dktX4_init_1
theorem dksX4_init_0 : cX4_init.data.toList.drop 0 = dktX4_init_0 := by decide +kernel
theorem dksX4_init_1 : cX4_init.data.toList.drop 23 = dktX4_init_1 := dk_seg dksX4_init_0 23 rfl rfl
theorem dksX4_init_2 : cX4_init.data.toList.drop 46 = dktX4_init_2 := dk_seg dksX4_init_1 23 rfl rfl
theorem dksX4_init_3 : cX4_init.data.toList.drop 70 = dktX4_init_3 := dk_seg dksX4_init_2 24 rfl rfl
theorem dX4_init_0 : decode cX4_init 0 = .ok (.aload_n 0, 1) := dk_42 (dk_at dksX4_init_0 0 rfl rfl)
theorem dX4_init_1 : decode cX4_init 1 = .ok (.invokespecial 3, 3) := dk_183 0 3 (dk_at dksX4_init_0 1 rfl rfl)
theorem dX4_init_4 : decode cX4_init 4 = .ok (.aload_n 0, 1) := dk_42 (dk_at dksX4_init_0 4 rfl rfl)
theorem dX4_init_5 : decode cX4_init 5 = .ok (.bipush 12, 2) := dk_16 12 (dk_at dksX4_init_0 5 rfl rfl)
theorem dX4_init_7 : decode cX4_init 7 = .ok (.newarray .int, 2) := dk_188_10 (dk_at dksX4_init_0 7 rfl rfl)
theorem dX4_init_9 : decode cX4_init 9 = .ok (.putfield 9, 3) := dk_181 0 9 (dk_at dksX4_init_0 9 rfl rfl)
theorem dX4_init_12 : decode cX4_init 12 = .ok (.aload_n 0, 1) := dk_42 (dk_at dksX4_init_0 12 rfl rfl)
theorem dX4_init_13 : decode cX4_init 13 = .ok (.bipush 12, 2) := dk_16 12 (dk_at dksX4_init_0 13 rfl rfl)
theorem dX4_init_15 : decode cX4_init 15 = .ok (.newarray .int, 2) := dk_188_10 (dk_at dksX4_init_0 15 rfl rfl)
theorem dX4_init_17 : decode cX4_init 17 = .ok (.putfield 15, 3) := dk_181 0 15 (dk_at dksX4_init_0 17 rfl rfl)
theorem dX4_init_20 : decode cX4_init 20 = .ok (.aload_n 0, 1) := dk_42 (dk_at dksX4_init_0 20 rfl rfl)
theorem dX4_init_21 : decode cX4_init 21 = .ok (.bipush 12, 2) := dk_16 12 (dk_at dksX4_init_0 21 rfl rfl)
theorem dX4_init_23 : decode cX4_init 23 = .ok (.newarray .int, 2) := dk_188_10 (dk_at dksX4_init_1 0 rfl rfl)
theorem dX4_init_25 : decode cX4_init 25 = .ok (.putfield 18, 3) := dk_181 0 18 (dk_at dksX4_init_1 2 rfl rfl)
theorem dX4_init_28 : decode cX4_init 28 = .ok (.aload_n 0, 1) := dk_42 (dk_at dksX4_init_1 5 rfl rfl)
theorem dX4_init_29 : decode cX4_init 29 = .ok (.iconst 4, 1) := dk_7 (dk_at dksX4_init_1 6 rfl rfl)
theorem dX4_init_30 : decode cX4_init 30 = .ok (.newarray .int, 2) := dk_188_10 (dk_at dksX4_init_1 7 rfl rfl)
theorem dX4_init_32 : decode cX4_init 32 = .ok (.putfield 21, 3) := dk_181 0 21 (dk_at dksX4_init_1 9 rfl rfl)
theorem dX4_init_35 : decode cX4_init 35 = .ok (.aload_n 0, 1) := dk_42 (dk_at dksX4_init_1 12 rfl rfl)
theorem dX4_init_36 : decode cX4_init 36 = .ok (.iconst 4, 1) := dk_7 (dk_at dksX4_init_1 13 rfl rfl)
theorem dX4_init_37 : decode cX4_init 37 = .ok (.newarray .int, 2) := dk_188_10 (dk_at dksX4_init_1 14 rfl rfl)
theorem dX4_init_39 : decode cX4_init 39 = .ok (.putfield 24, 3) := dk_181 0 24 (dk_at dksX4_init_1 16 rfl rfl)
theorem dX4_init_42 : decode cX4_init 42 = .ok (.aload_n 0, 1) := dk_42 (dk_at dksX4_init_1 19 rfl rfl)
theorem dX4_init_43 : decode cX4_init 43 = .ok (.iconst 4, 1) := dk_7 (dk_at dksX4_init_1 20 rfl rfl)
theorem dX4_init_44 : decode cX4_init 44 = .ok (.newarray .int, 2) := dk_188_10 (dk_at dksX4_init_1 21 rfl rfl)
theorem dX4_init_46 : decode cX4_init 46 = .ok (.putfield 27, 3) := dk_181 0 27 (dk_at dksX4_init_2 0 rfl rfl)
theorem dX4_init_49 : decode cX4_init 49 = .ok (.aload_n 0, 1) := dk_42 (dk_at dksX4_init_2 3 rfl rfl)
theorem dX4_init_50 : decode cX4_init 50 = .ok (.new 30, 3) := dk_187 0 30 (dk_at dksX4_init_2 4 rfl rfl)
theorem dX4_init_53 : decode cX4_init 53 = .ok (.dup, 1) := dk_89 (dk_at dksX4_init_2 7 rfl rfl)
theorem dX4_init_54 : decode cX4_init 54 = .ok (.invokespecial 32, 3) := dk_183 0 32 (dk_at dksX4_init_2 8 rfl rfl)
theorem dX4_init_57 : decode cX4_init 57 = .ok (.putfield 33, 3) := dk_181 0 33 (dk_at dksX4_init_2 11 rfl rfl)
theorem dX4_init_60 : decode cX4_init 60 = .ok (.aload_n 0, 1) := dk_42 (dk_at dksX4_init_2 14 rfl rfl)
theorem dX4_init_61 : decode cX4_init 61 = .ok (.iconst (-1), 1) := dk_2 (dk_at dksX4_init_2 15 rfl rfl)
theorem dX4_init_62 : decode cX4_init 62 = .ok (.putfield 37, 3) := dk_181 0 37 (dk_at dksX4_init_2 16 rfl rfl)
theorem dX4_init_65 : decode cX4_init 65 = .ok (.aload_n 0, 1) := dk_42 (dk_at dksX4_init_2 19 rfl rfl)
theorem dX4_init_66 : decode cX4_init 66 = .ok (.aload_n 1, 1) := dk_43 (dk_at dksX4_init_2 20 rfl rfl)
theorem dX4_init_67 : decode cX4_init 67 = .ok (.putfield 41, 3) := dk_181 0 41 (dk_at dksX4_init_2 21 rfl rfl)
theorem dX4_init_70 : decode cX4_init 70 = .ok (.return_, 1) := dk_177 (dk_at dksX4_init_3 0 rfl rfl)
abbrev cX4_starts : ByteArray := prog_16_method_2_code
def yX4_starts : MethodName := ⟨RX4, "starts", "(LRainWheel$Road;)LRainWheel$Watch;"⟩
def dkwX4_starts_3 : List UInt8 := [3, 181, 0, 55, 42, 2, 181, 0, 37, 42, 176]
abbrev dktX4_starts_3 : List UInt8 := dkwX4_starts_3 ++ []
def dkwX4_starts_2 : List UInt8 := [42, 180, 0, 27, 28, 3, 79, 132, 2, 1, 167, 255, 227, 42, 3, 181, 0, 49, 42, 3, 181, 0, 52, 42]
abbrev dktX4_starts_2 : List UInt8 := dkwX4_starts_2 ++ dktX4_starts_3
def dkwX4_starts_1 : List UInt8 := [167, 255, 240, 3, 61, 28, 7, 162, 0, 30, 42, 180, 0, 21, 28, 3, 79, 42, 180, 0, 24, 28, 3, 79]
abbrev dktX4_starts_1 : List UInt8 := dkwX4_starts_1 ++ dktX4_starts_2
def dkwX4_starts_0 : List UInt8 := [42, 43, 181, 0, 45, 3, 61, 28, 16, 12, 162, 0, 16, 42, 180, 0, 18, 28, 2, 79, 132, 2, 1]
abbrev dktX4_starts_0 : List UInt8 := dkwX4_starts_0 ++ dktX4_starts_1
theorem dksX4_starts_0 : cX4_starts.data.toList.drop 0 = dktX4_starts_0 := by decide +kernel
theorem dksX4_starts_1 : cX4_starts.data.toList.drop 23 = dktX4_starts_1 := dk_seg dksX4_starts_0 23 rfl rfl
theorem dksX4_starts_2 : cX4_starts.data.toList.drop 47 = dktX4_starts_2 := dk_seg dksX4_starts_1 24 rfl rfl
theorem dksX4_starts_3 : cX4_starts.data.toList.drop 71 = dktX4_starts_3 := dk_seg dksX4_starts_2 24 rfl rfl
theorem dX4_starts_0 : decode cX4_starts 0 = .ok (.aload_n 0, 1) := dk_42 (dk_at dksX4_starts_0 0 rfl rfl)
theorem dX4_starts_1 : decode cX4_starts 1 = .ok (.aload_n 1, 1) := dk_43 (dk_at dksX4_starts_0 1 rfl rfl)
theorem dX4_starts_2 : decode cX4_starts 2 = .ok (.putfield 45, 3) := dk_181 0 45 (dk_at dksX4_starts_0 2 rfl rfl)
theorem dX4_starts_5 : decode cX4_starts 5 = .ok (.iconst 0, 1) := dk_3 (dk_at dksX4_starts_0 5 rfl rfl)
theorem dX4_starts_6 : decode cX4_starts 6 = .ok (.istore_n 2, 1) := dk_61 (dk_at dksX4_starts_0 6 rfl rfl)
theorem dX4_starts_7 : decode cX4_starts 7 = .ok (.iload_n 2, 1) := dk_28 (dk_at dksX4_starts_0 7 rfl rfl)
theorem dX4_starts_8 : decode cX4_starts 8 = .ok (.bipush 12, 2) := dk_16 12 (dk_at dksX4_starts_0 8 rfl rfl)
theorem dX4_starts_10 : decode cX4_starts 10 = .ok (.if_icmp .ge 16, 3) := dk_162 0 16 (dk_at dksX4_starts_0 10 rfl rfl)
theorem dX4_starts_13 : decode cX4_starts 13 = .ok (.aload_n 0, 1) := dk_42 (dk_at dksX4_starts_0 13 rfl rfl)
theorem dX4_starts_14 : decode cX4_starts 14 = .ok (.getfield 18, 3) := dk_180 0 18 (dk_at dksX4_starts_0 14 rfl rfl)
theorem dX4_starts_17 : decode cX4_starts 17 = .ok (.iload_n 2, 1) := dk_28 (dk_at dksX4_starts_0 17 rfl rfl)
theorem dX4_starts_18 : decode cX4_starts 18 = .ok (.iconst (-1), 1) := dk_2 (dk_at dksX4_starts_0 18 rfl rfl)
theorem dX4_starts_19 : decode cX4_starts 19 = .ok (.iastore, 1) := dk_79 (dk_at dksX4_starts_0 19 rfl rfl)
theorem dX4_starts_20 : decode cX4_starts 20 = .ok (.iinc 2 1, 3) := dk_132 2 1 (dk_at dksX4_starts_0 20 rfl rfl)
theorem dX4_starts_23 : decode cX4_starts 23 = .ok (.goto (-16), 3) := dk_167 255 240 (dk_at dksX4_starts_1 0 rfl rfl)
theorem dX4_starts_26 : decode cX4_starts 26 = .ok (.iconst 0, 1) := dk_3 (dk_at dksX4_starts_1 3 rfl rfl)
theorem dX4_starts_27 : decode cX4_starts 27 = .ok (.istore_n 2, 1) := dk_61 (dk_at dksX4_starts_1 4 rfl rfl)
theorem dX4_starts_28 : decode cX4_starts 28 = .ok (.iload_n 2, 1) := dk_28 (dk_at dksX4_starts_1 5 rfl rfl)
theorem dX4_starts_29 : decode cX4_starts 29 = .ok (.iconst 4, 1) := dk_7 (dk_at dksX4_starts_1 6 rfl rfl)
theorem dX4_starts_30 : decode cX4_starts 30 = .ok (.if_icmp .ge 30, 3) := dk_162 0 30 (dk_at dksX4_starts_1 7 rfl rfl)
theorem dX4_starts_33 : decode cX4_starts 33 = .ok (.aload_n 0, 1) := dk_42 (dk_at dksX4_starts_1 10 rfl rfl)
theorem dX4_starts_34 : decode cX4_starts 34 = .ok (.getfield 21, 3) := dk_180 0 21 (dk_at dksX4_starts_1 11 rfl rfl)
theorem dX4_starts_37 : decode cX4_starts 37 = .ok (.iload_n 2, 1) := dk_28 (dk_at dksX4_starts_1 14 rfl rfl)
theorem dX4_starts_38 : decode cX4_starts 38 = .ok (.iconst 0, 1) := dk_3 (dk_at dksX4_starts_1 15 rfl rfl)
theorem dX4_starts_39 : decode cX4_starts 39 = .ok (.iastore, 1) := dk_79 (dk_at dksX4_starts_1 16 rfl rfl)
theorem dX4_starts_40 : decode cX4_starts 40 = .ok (.aload_n 0, 1) := dk_42 (dk_at dksX4_starts_1 17 rfl rfl)
theorem dX4_starts_41 : decode cX4_starts 41 = .ok (.getfield 24, 3) := dk_180 0 24 (dk_at dksX4_starts_1 18 rfl rfl)
theorem dX4_starts_44 : decode cX4_starts 44 = .ok (.iload_n 2, 1) := dk_28 (dk_at dksX4_starts_1 21 rfl rfl)
theorem dX4_starts_45 : decode cX4_starts 45 = .ok (.iconst 0, 1) := dk_3 (dk_at dksX4_starts_1 22 rfl rfl)
theorem dX4_starts_46 : decode cX4_starts 46 = .ok (.iastore, 1) := dk_79 (dk_at dksX4_starts_1 23 rfl rfl)
theorem dX4_starts_47 : decode cX4_starts 47 = .ok (.aload_n 0, 1) := dk_42 (dk_at dksX4_starts_2 0 rfl rfl)
theorem dX4_starts_48 : decode cX4_starts 48 = .ok (.getfield 27, 3) := dk_180 0 27 (dk_at dksX4_starts_2 1 rfl rfl)
theorem dX4_starts_51 : decode cX4_starts 51 = .ok (.iload_n 2, 1) := dk_28 (dk_at dksX4_starts_2 4 rfl rfl)
theorem dX4_starts_52 : decode cX4_starts 52 = .ok (.iconst 0, 1) := dk_3 (dk_at dksX4_starts_2 5 rfl rfl)
theorem dX4_starts_53 : decode cX4_starts 53 = .ok (.iastore, 1) := dk_79 (dk_at dksX4_starts_2 6 rfl rfl)
theorem dX4_starts_54 : decode cX4_starts 54 = .ok (.iinc 2 1, 3) := dk_132 2 1 (dk_at dksX4_starts_2 7 rfl rfl)
theorem dX4_starts_57 : decode cX4_starts 57 = .ok (.goto (-29), 3) := dk_167 255 227 (dk_at dksX4_starts_2 10 rfl rfl)
theorem dX4_starts_60 : decode cX4_starts 60 = .ok (.aload_n 0, 1) := dk_42 (dk_at dksX4_starts_2 13 rfl rfl)
theorem dX4_starts_61 : decode cX4_starts 61 = .ok (.iconst 0, 1) := dk_3 (dk_at dksX4_starts_2 14 rfl rfl)
theorem dX4_starts_62 : decode cX4_starts 62 = .ok (.putfield 49, 3) := dk_181 0 49 (dk_at dksX4_starts_2 15 rfl rfl)
theorem dX4_starts_65 : decode cX4_starts 65 = .ok (.aload_n 0, 1) := dk_42 (dk_at dksX4_starts_2 18 rfl rfl)
theorem dX4_starts_66 : decode cX4_starts 66 = .ok (.iconst 0, 1) := dk_3 (dk_at dksX4_starts_2 19 rfl rfl)
theorem dX4_starts_67 : decode cX4_starts 67 = .ok (.putfield 52, 3) := dk_181 0 52 (dk_at dksX4_starts_2 20 rfl rfl)
theorem dX4_starts_70 : decode cX4_starts 70 = .ok (.aload_n 0, 1) := dk_42 (dk_at dksX4_starts_2 23 rfl rfl)
theorem dX4_starts_71 : decode cX4_starts 71 = .ok (.iconst 0, 1) := dk_3 (dk_at dksX4_starts_3 0 rfl rfl)
theorem dX4_starts_72 : decode cX4_starts 72 = .ok (.putfield 55, 3) := dk_181 0 55 (dk_at dksX4_starts_3 1 rfl rfl)
theorem dX4_starts_75 : decode cX4_starts 75 = .ok (.aload_n 0, 1) := dk_42 (dk_at dksX4_starts_3 4 rfl rfl)
theorem dX4_starts_76 : decode cX4_starts 76 = .ok (.iconst (-1), 1) := dk_2 (dk_at dksX4_starts_3 5 rfl rfl)
theorem dX4_starts_77 : decode cX4_starts 77 = .ok (.putfield 37, 3) := dk_181 0 37 (dk_at dksX4_starts_3 6 rfl rfl)
theorem dX4_starts_80 : decode cX4_starts 80 = .ok (.aload_n 0, 1) := dk_42 (dk_at dksX4_starts_3 9 rfl rfl)
theorem dX4_starts_81 : decode cX4_starts 81 = .ok (.areturn, 1) := dk_176 (dk_at dksX4_starts_3 10 rfl rfl)
abbrev cX4_goes : ByteArray := prog_16_method_6_code
def yX4_goes : MethodName := ⟨RX4, "goes", "(LRainWheel$Plan;)LRainWheel$Watch;"⟩
def dkwX4_goes_1 : List UInt8 := [182, 0, 79, 87, 132, 2, 1, 167, 255, 227, 42, 176]
abbrev dktX4_goes_1 : List UInt8 := dkwX4_goes_1 ++ []
def dkwX4_goes_0 : List UInt8 := [3, 61, 28, 43, 180, 0, 68, 162, 0, 27, 42, 28, 43, 180, 0, 73, 28, 46, 43, 180, 0, 76, 28, 46]
abbrev dktX4_goes_0 : List UInt8 := dkwX4_goes_0 ++ dktX4_goes_1
theorem dksX4_goes_0 : cX4_goes.data.toList.drop 0 = dktX4_goes_0 := by decide +kernel
theorem dksX4_goes_1 : cX4_goes.data.toList.drop 24 = dktX4_goes_1 := dk_seg dksX4_goes_0 24 rfl rfl
theorem dX4_goes_0 : decode cX4_goes 0 = .ok (.iconst 0, 1) := dk_3 (dk_at dksX4_goes_0 0 rfl rfl)
theorem dX4_goes_1 : decode cX4_goes 1 = .ok (.istore_n 2, 1) := dk_61 (dk_at dksX4_goes_0 1 rfl rfl)
theorem dX4_goes_2 : decode cX4_goes 2 = .ok (.iload_n 2, 1) := dk_28 (dk_at dksX4_goes_0 2 rfl rfl)
theorem dX4_goes_3 : decode cX4_goes 3 = .ok (.aload_n 1, 1) := dk_43 (dk_at dksX4_goes_0 3 rfl rfl)
theorem dX4_goes_4 : decode cX4_goes 4 = .ok (.getfield 68, 3) := dk_180 0 68 (dk_at dksX4_goes_0 4 rfl rfl)
theorem dX4_goes_7 : decode cX4_goes 7 = .ok (.if_icmp .ge 27, 3) := dk_162 0 27 (dk_at dksX4_goes_0 7 rfl rfl)
theorem dX4_goes_10 : decode cX4_goes 10 = .ok (.aload_n 0, 1) := dk_42 (dk_at dksX4_goes_0 10 rfl rfl)
theorem dX4_goes_11 : decode cX4_goes 11 = .ok (.iload_n 2, 1) := dk_28 (dk_at dksX4_goes_0 11 rfl rfl)
theorem dX4_goes_12 : decode cX4_goes 12 = .ok (.aload_n 1, 1) := dk_43 (dk_at dksX4_goes_0 12 rfl rfl)
theorem dX4_goes_13 : decode cX4_goes 13 = .ok (.getfield 73, 3) := dk_180 0 73 (dk_at dksX4_goes_0 13 rfl rfl)
theorem dX4_goes_16 : decode cX4_goes 16 = .ok (.iload_n 2, 1) := dk_28 (dk_at dksX4_goes_0 16 rfl rfl)
theorem dX4_goes_17 : decode cX4_goes 17 = .ok (.iaload, 1) := dk_46 (dk_at dksX4_goes_0 17 rfl rfl)
theorem dX4_goes_18 : decode cX4_goes 18 = .ok (.aload_n 1, 1) := dk_43 (dk_at dksX4_goes_0 18 rfl rfl)
theorem dX4_goes_19 : decode cX4_goes 19 = .ok (.getfield 76, 3) := dk_180 0 76 (dk_at dksX4_goes_0 19 rfl rfl)
theorem dX4_goes_22 : decode cX4_goes 22 = .ok (.iload_n 2, 1) := dk_28 (dk_at dksX4_goes_0 22 rfl rfl)
theorem dX4_goes_23 : decode cX4_goes 23 = .ok (.iaload, 1) := dk_46 (dk_at dksX4_goes_0 23 rfl rfl)
theorem dX4_goes_24 : decode cX4_goes 24 = .ok (.invokevirtual 79, 3) := dk_182 0 79 (dk_at dksX4_goes_1 0 rfl rfl)
theorem dX4_goes_27 : decode cX4_goes 27 = .ok (.pop, 1) := dk_87 (dk_at dksX4_goes_1 3 rfl rfl)
theorem dX4_goes_28 : decode cX4_goes 28 = .ok (.iinc 2 1, 3) := dk_132 2 1 (dk_at dksX4_goes_1 4 rfl rfl)
theorem dX4_goes_31 : decode cX4_goes 31 = .ok (.goto (-29), 3) := dk_167 255 227 (dk_at dksX4_goes_1 7 rfl rfl)
theorem dX4_goes_34 : decode cX4_goes 34 = .ok (.aload_n 0, 1) := dk_42 (dk_at dksX4_goes_1 10 rfl rfl)
theorem dX4_goes_35 : decode cX4_goes 35 = .ok (.areturn, 1) := dk_176 (dk_at dksX4_goes_1 11 rfl rfl)
abbrev cX4_comes : ByteArray := prog_16_method_8_code
def yX4_comes : MethodName := ⟨RX4, "comes", "(III)Z"⟩
def dkwX4_comes_13 : List UInt8 := [21, 7, 42, 180, 0, 15, 27, 46, 21, 5, 21, 6, 182, 0, 117, 132, 7, 1, 167, 255, 215, 4, 172]
abbrev dktX4_comes_13 : List UInt8 := dkwX4_comes_13 ++ []
def dkwX4_comes_12 : List UInt8 := [21, 7, 42, 180, 0, 45, 180, 0, 100, 162, 0, 35, 29, 21, 7, 122, 4, 126, 4, 160, 0, 19, 42]
abbrev dktX4_comes_12 : List UInt8 := dkwX4_comes_12 ++ dktX4_comes_13
def dkwX4_comes_11 : List UInt8 := [42, 180, 0, 45, 21, 4, 42, 180, 0, 15, 27, 46, 182, 0, 114, 167, 0, 4, 3, 54, 6, 3, 54, 7]
abbrev dktX4_comes_11 : List UInt8 := dkwX4_comes_11 ++ dktX4_comes_12
def dkwX4_comes_10 : List UInt8 := [180, 0, 15, 27, 46, 184, 0, 94, 181, 0, 49, 42, 180, 0, 45, 180, 0, 111, 28, 46, 4, 160, 0, 21]
abbrev dktX4_comes_10 : List UInt8 := dkwX4_comes_10 ++ dktX4_comes_11
def dkwX4_comes_9 : List UInt8 := [21, 5, 96, 79, 42, 180, 0, 18, 28, 42, 180, 0, 15, 27, 46, 79, 42, 42, 180, 0, 49, 42]
abbrev dktX4_comes_9 : List UInt8 := dkwX4_comes_9 ++ dktX4_comes_10
def dkwX4_comes_8 : List UInt8 := [89, 180, 0, 52, 4, 96, 181, 0, 52, 42, 180, 0, 9, 27, 21, 4, 79, 42, 180, 0, 15, 27, 21, 4]
abbrev dktX4_comes_8 : List UInt8 := dkwX4_comes_8 ++ dktX4_comes_9
def dkwX4_comes_7 : List UInt8 := [180, 0, 55, 158, 0, 30, 42, 182, 0, 107, 42, 180, 0, 55, 162, 0, 19, 21, 5, 5, 104, 54, 5, 42]
abbrev dktX4_comes_7 : List UInt8 := dkwX4_comes_7 ++ dktX4_comes_8
def dkwX4_comes_6 : List UInt8 := [182, 0, 103, 28, 42, 180, 0, 37, 160, 0, 10, 42, 180, 0, 58, 167, 0, 4, 3, 96, 54, 5, 42]
abbrev dktX4_comes_6 : List UInt8 := dkwX4_comes_6 ++ dktX4_comes_7
def dkwX4_comes_5 : List UInt8 := [180, 0, 21, 21, 5, 46, 184, 0, 94, 54, 4, 132, 5, 1, 167, 255, 217, 42, 28, 29, 21, 4]
abbrev dktX4_comes_5 : List UInt8 := dkwX4_comes_5 ++ dktX4_comes_6
def dkwX4_comes_4 : List UInt8 := [180, 0, 45, 180, 0, 100, 162, 0, 33, 29, 21, 5, 122, 4, 126, 4, 160, 0, 17, 21, 4, 42]
abbrev dktX4_comes_4 : List UInt8 := dkwX4_comes_4 ++ dktX4_comes_5
def dkwX4_comes_3 : List UInt8 := [180, 0, 18, 21, 5, 46, 184, 0, 94, 54, 4, 132, 5, 1, 167, 255, 215, 3, 54, 5, 21, 5, 42]
abbrev dktX4_comes_3 : List UInt8 := dkwX4_comes_3 ++ dktX4_comes_4
def dkwX4_comes_2 : List UInt8 := [162, 0, 41, 42, 180, 0, 45, 180, 0, 83, 28, 46, 21, 5, 122, 4, 126, 4, 160, 0, 17, 21, 4, 42]
abbrev dktX4_comes_2 : List UInt8 := dkwX4_comes_2 ++ dktX4_comes_3
def dkwX4_comes_1 : List UInt8 := [153, 0, 11, 42, 28, 182, 0, 90, 154, 0, 5, 3, 172, 3, 54, 4, 3, 54, 5, 21, 5, 28]
abbrev dktX4_comes_1 : List UInt8 := dkwX4_comes_1 ++ dktX4_comes_2
def dkwX4_comes_0 : List UInt8 := [42, 180, 0, 9, 27, 2, 79, 42, 180, 0, 15, 27, 2, 79, 42, 180, 0, 45, 28, 29, 182, 0, 86]
abbrev dktX4_comes_0 : List UInt8 := dkwX4_comes_0 ++ dktX4_comes_1
theorem dksX4_comes_0 : cX4_comes.data.toList.drop 0 = dktX4_comes_0 := by decide +kernel
theorem dksX4_comes_1 : cX4_comes.data.toList.drop 23 = dktX4_comes_1 := dk_seg dksX4_comes_0 23 rfl rfl
theorem dksX4_comes_2 : cX4_comes.data.toList.drop 45 = dktX4_comes_2 := dk_seg dksX4_comes_1 22 rfl rfl
theorem dksX4_comes_3 : cX4_comes.data.toList.drop 69 = dktX4_comes_3 := dk_seg dksX4_comes_2 24 rfl rfl
theorem dksX4_comes_4 : cX4_comes.data.toList.drop 92 = dktX4_comes_4 := dk_seg dksX4_comes_3 23 rfl rfl
theorem dksX4_comes_5 : cX4_comes.data.toList.drop 114 = dktX4_comes_5 := dk_seg dksX4_comes_4 22 rfl rfl
theorem dksX4_comes_6 : cX4_comes.data.toList.drop 136 = dktX4_comes_6 := dk_seg dksX4_comes_5 22 rfl rfl
theorem dksX4_comes_7 : cX4_comes.data.toList.drop 159 = dktX4_comes_7 := dk_seg dksX4_comes_6 23 rfl rfl
theorem dksX4_comes_8 : cX4_comes.data.toList.drop 183 = dktX4_comes_8 := dk_seg dksX4_comes_7 24 rfl rfl
theorem dksX4_comes_9 : cX4_comes.data.toList.drop 207 = dktX4_comes_9 := dk_seg dksX4_comes_8 24 rfl rfl
theorem dksX4_comes_10 : cX4_comes.data.toList.drop 229 = dktX4_comes_10 := dk_seg dksX4_comes_9 22 rfl rfl
theorem dksX4_comes_11 : cX4_comes.data.toList.drop 253 = dktX4_comes_11 := dk_seg dksX4_comes_10 24 rfl rfl
theorem dksX4_comes_12 : cX4_comes.data.toList.drop 277 = dktX4_comes_12 := dk_seg dksX4_comes_11 24 rfl rfl
theorem dksX4_comes_13 : cX4_comes.data.toList.drop 300 = dktX4_comes_13 := dk_seg dksX4_comes_12 23 rfl rfl
theorem dX4_comes_0 : decode cX4_comes 0 = .ok (.aload_n 0, 1) := dk_42 (dk_at dksX4_comes_0 0 rfl rfl)
theorem dX4_comes_1 : decode cX4_comes 1 = .ok (.getfield 9, 3) := dk_180 0 9 (dk_at dksX4_comes_0 1 rfl rfl)
theorem dX4_comes_4 : decode cX4_comes 4 = .ok (.iload_n 1, 1) := dk_27 (dk_at dksX4_comes_0 4 rfl rfl)
theorem dX4_comes_5 : decode cX4_comes 5 = .ok (.iconst (-1), 1) := dk_2 (dk_at dksX4_comes_0 5 rfl rfl)
theorem dX4_comes_6 : decode cX4_comes 6 = .ok (.iastore, 1) := dk_79 (dk_at dksX4_comes_0 6 rfl rfl)
theorem dX4_comes_7 : decode cX4_comes 7 = .ok (.aload_n 0, 1) := dk_42 (dk_at dksX4_comes_0 7 rfl rfl)
theorem dX4_comes_8 : decode cX4_comes 8 = .ok (.getfield 15, 3) := dk_180 0 15 (dk_at dksX4_comes_0 8 rfl rfl)
theorem dX4_comes_11 : decode cX4_comes 11 = .ok (.iload_n 1, 1) := dk_27 (dk_at dksX4_comes_0 11 rfl rfl)
theorem dX4_comes_12 : decode cX4_comes 12 = .ok (.iconst (-1), 1) := dk_2 (dk_at dksX4_comes_0 12 rfl rfl)
theorem dX4_comes_13 : decode cX4_comes 13 = .ok (.iastore, 1) := dk_79 (dk_at dksX4_comes_0 13 rfl rfl)
theorem dX4_comes_14 : decode cX4_comes 14 = .ok (.aload_n 0, 1) := dk_42 (dk_at dksX4_comes_0 14 rfl rfl)
theorem dX4_comes_15 : decode cX4_comes 15 = .ok (.getfield 45, 3) := dk_180 0 45 (dk_at dksX4_comes_0 15 rfl rfl)
theorem dX4_comes_18 : decode cX4_comes 18 = .ok (.iload_n 2, 1) := dk_28 (dk_at dksX4_comes_0 18 rfl rfl)
theorem dX4_comes_19 : decode cX4_comes 19 = .ok (.iload_n 3, 1) := dk_29 (dk_at dksX4_comes_0 19 rfl rfl)
theorem dX4_comes_20 : decode cX4_comes 20 = .ok (.invokevirtual 86, 3) := dk_182 0 86 (dk_at dksX4_comes_0 20 rfl rfl)
theorem dX4_comes_23 : decode cX4_comes 23 = .ok (.ifCond .eq 11, 3) := dk_153 0 11 (dk_at dksX4_comes_1 0 rfl rfl)
theorem dX4_comes_26 : decode cX4_comes 26 = .ok (.aload_n 0, 1) := dk_42 (dk_at dksX4_comes_1 3 rfl rfl)
theorem dX4_comes_27 : decode cX4_comes 27 = .ok (.iload_n 2, 1) := dk_28 (dk_at dksX4_comes_1 4 rfl rfl)
theorem dX4_comes_28 : decode cX4_comes 28 = .ok (.invokevirtual 90, 3) := dk_182 0 90 (dk_at dksX4_comes_1 5 rfl rfl)
theorem dX4_comes_31 : decode cX4_comes 31 = .ok (.ifCond .ne 5, 3) := dk_154 0 5 (dk_at dksX4_comes_1 8 rfl rfl)
theorem dX4_comes_34 : decode cX4_comes 34 = .ok (.iconst 0, 1) := dk_3 (dk_at dksX4_comes_1 11 rfl rfl)
theorem dX4_comes_35 : decode cX4_comes 35 = .ok (.ireturn, 1) := dk_172 (dk_at dksX4_comes_1 12 rfl rfl)
theorem dX4_comes_36 : decode cX4_comes 36 = .ok (.iconst 0, 1) := dk_3 (dk_at dksX4_comes_1 13 rfl rfl)
theorem dX4_comes_37 : decode cX4_comes 37 = .ok (.istore 4, 2) := dk_54 4 (dk_at dksX4_comes_1 14 rfl rfl)
theorem dX4_comes_39 : decode cX4_comes 39 = .ok (.iconst 0, 1) := dk_3 (dk_at dksX4_comes_1 16 rfl rfl)
theorem dX4_comes_40 : decode cX4_comes 40 = .ok (.istore 5, 2) := dk_54 5 (dk_at dksX4_comes_1 17 rfl rfl)
theorem dX4_comes_42 : decode cX4_comes 42 = .ok (.iload 5, 2) := dk_21 5 (dk_at dksX4_comes_1 19 rfl rfl)
theorem dX4_comes_44 : decode cX4_comes 44 = .ok (.iload_n 2, 1) := dk_28 (dk_at dksX4_comes_1 21 rfl rfl)
theorem dX4_comes_45 : decode cX4_comes 45 = .ok (.if_icmp .ge 41, 3) := dk_162 0 41 (dk_at dksX4_comes_2 0 rfl rfl)
theorem dX4_comes_48 : decode cX4_comes 48 = .ok (.aload_n 0, 1) := dk_42 (dk_at dksX4_comes_2 3 rfl rfl)
theorem dX4_comes_49 : decode cX4_comes 49 = .ok (.getfield 45, 3) := dk_180 0 45 (dk_at dksX4_comes_2 4 rfl rfl)
theorem dX4_comes_52 : decode cX4_comes 52 = .ok (.getfield 83, 3) := dk_180 0 83 (dk_at dksX4_comes_2 7 rfl rfl)
theorem dX4_comes_55 : decode cX4_comes 55 = .ok (.iload_n 2, 1) := dk_28 (dk_at dksX4_comes_2 10 rfl rfl)
theorem dX4_comes_56 : decode cX4_comes 56 = .ok (.iaload, 1) := dk_46 (dk_at dksX4_comes_2 11 rfl rfl)
theorem dX4_comes_57 : decode cX4_comes 57 = .ok (.iload 5, 2) := dk_21 5 (dk_at dksX4_comes_2 12 rfl rfl)
theorem dX4_comes_59 : decode cX4_comes 59 = .ok (.ishr, 1) := dk_122 (dk_at dksX4_comes_2 14 rfl rfl)
theorem dX4_comes_60 : decode cX4_comes 60 = .ok (.iconst 1, 1) := dk_4 (dk_at dksX4_comes_2 15 rfl rfl)
theorem dX4_comes_61 : decode cX4_comes 61 = .ok (.iand, 1) := dk_126 (dk_at dksX4_comes_2 16 rfl rfl)
theorem dX4_comes_62 : decode cX4_comes 62 = .ok (.iconst 1, 1) := dk_4 (dk_at dksX4_comes_2 17 rfl rfl)
theorem dX4_comes_63 : decode cX4_comes 63 = .ok (.if_icmp .ne 17, 3) := dk_160 0 17 (dk_at dksX4_comes_2 18 rfl rfl)
theorem dX4_comes_66 : decode cX4_comes 66 = .ok (.iload 4, 2) := dk_21 4 (dk_at dksX4_comes_2 21 rfl rfl)
theorem dX4_comes_68 : decode cX4_comes 68 = .ok (.aload_n 0, 1) := dk_42 (dk_at dksX4_comes_2 23 rfl rfl)
theorem dX4_comes_69 : decode cX4_comes 69 = .ok (.getfield 18, 3) := dk_180 0 18 (dk_at dksX4_comes_3 0 rfl rfl)
theorem dX4_comes_72 : decode cX4_comes 72 = .ok (.iload 5, 2) := dk_21 5 (dk_at dksX4_comes_3 3 rfl rfl)
theorem dX4_comes_74 : decode cX4_comes 74 = .ok (.iaload, 1) := dk_46 (dk_at dksX4_comes_3 5 rfl rfl)
theorem dX4_comes_75 : decode cX4_comes 75 = .ok (.invokestatic 94, 3) := dk_184 0 94 (dk_at dksX4_comes_3 6 rfl rfl)
theorem dX4_comes_78 : decode cX4_comes 78 = .ok (.istore 4, 2) := dk_54 4 (dk_at dksX4_comes_3 9 rfl rfl)
theorem dX4_comes_80 : decode cX4_comes 80 = .ok (.iinc 5 1, 3) := dk_132 5 1 (dk_at dksX4_comes_3 11 rfl rfl)
theorem dX4_comes_83 : decode cX4_comes 83 = .ok (.goto (-41), 3) := dk_167 255 215 (dk_at dksX4_comes_3 14 rfl rfl)
theorem dX4_comes_86 : decode cX4_comes 86 = .ok (.iconst 0, 1) := dk_3 (dk_at dksX4_comes_3 17 rfl rfl)
theorem dX4_comes_87 : decode cX4_comes 87 = .ok (.istore 5, 2) := dk_54 5 (dk_at dksX4_comes_3 18 rfl rfl)
theorem dX4_comes_89 : decode cX4_comes 89 = .ok (.iload 5, 2) := dk_21 5 (dk_at dksX4_comes_3 20 rfl rfl)
theorem dX4_comes_91 : decode cX4_comes 91 = .ok (.aload_n 0, 1) := dk_42 (dk_at dksX4_comes_3 22 rfl rfl)
theorem dX4_comes_92 : decode cX4_comes 92 = .ok (.getfield 45, 3) := dk_180 0 45 (dk_at dksX4_comes_4 0 rfl rfl)
theorem dX4_comes_95 : decode cX4_comes 95 = .ok (.getfield 100, 3) := dk_180 0 100 (dk_at dksX4_comes_4 3 rfl rfl)
theorem dX4_comes_98 : decode cX4_comes 98 = .ok (.if_icmp .ge 33, 3) := dk_162 0 33 (dk_at dksX4_comes_4 6 rfl rfl)
theorem dX4_comes_101 : decode cX4_comes 101 = .ok (.iload_n 3, 1) := dk_29 (dk_at dksX4_comes_4 9 rfl rfl)
theorem dX4_comes_102 : decode cX4_comes 102 = .ok (.iload 5, 2) := dk_21 5 (dk_at dksX4_comes_4 10 rfl rfl)
theorem dX4_comes_104 : decode cX4_comes 104 = .ok (.ishr, 1) := dk_122 (dk_at dksX4_comes_4 12 rfl rfl)
theorem dX4_comes_105 : decode cX4_comes 105 = .ok (.iconst 1, 1) := dk_4 (dk_at dksX4_comes_4 13 rfl rfl)
theorem dX4_comes_106 : decode cX4_comes 106 = .ok (.iand, 1) := dk_126 (dk_at dksX4_comes_4 14 rfl rfl)
theorem dX4_comes_107 : decode cX4_comes 107 = .ok (.iconst 1, 1) := dk_4 (dk_at dksX4_comes_4 15 rfl rfl)
theorem dX4_comes_108 : decode cX4_comes 108 = .ok (.if_icmp .ne 17, 3) := dk_160 0 17 (dk_at dksX4_comes_4 16 rfl rfl)
theorem dX4_comes_111 : decode cX4_comes 111 = .ok (.iload 4, 2) := dk_21 4 (dk_at dksX4_comes_4 19 rfl rfl)
theorem dX4_comes_113 : decode cX4_comes 113 = .ok (.aload_n 0, 1) := dk_42 (dk_at dksX4_comes_4 21 rfl rfl)
theorem dX4_comes_114 : decode cX4_comes 114 = .ok (.getfield 21, 3) := dk_180 0 21 (dk_at dksX4_comes_5 0 rfl rfl)
theorem dX4_comes_117 : decode cX4_comes 117 = .ok (.iload 5, 2) := dk_21 5 (dk_at dksX4_comes_5 3 rfl rfl)
theorem dX4_comes_119 : decode cX4_comes 119 = .ok (.iaload, 1) := dk_46 (dk_at dksX4_comes_5 5 rfl rfl)
theorem dX4_comes_120 : decode cX4_comes 120 = .ok (.invokestatic 94, 3) := dk_184 0 94 (dk_at dksX4_comes_5 6 rfl rfl)
theorem dX4_comes_123 : decode cX4_comes 123 = .ok (.istore 4, 2) := dk_54 4 (dk_at dksX4_comes_5 9 rfl rfl)
theorem dX4_comes_125 : decode cX4_comes 125 = .ok (.iinc 5 1, 3) := dk_132 5 1 (dk_at dksX4_comes_5 11 rfl rfl)
theorem dX4_comes_128 : decode cX4_comes 128 = .ok (.goto (-39), 3) := dk_167 255 217 (dk_at dksX4_comes_5 14 rfl rfl)
theorem dX4_comes_131 : decode cX4_comes 131 = .ok (.aload_n 0, 1) := dk_42 (dk_at dksX4_comes_5 17 rfl rfl)
theorem dX4_comes_132 : decode cX4_comes 132 = .ok (.iload_n 2, 1) := dk_28 (dk_at dksX4_comes_5 18 rfl rfl)
theorem dX4_comes_133 : decode cX4_comes 133 = .ok (.iload_n 3, 1) := dk_29 (dk_at dksX4_comes_5 19 rfl rfl)
theorem dX4_comes_134 : decode cX4_comes 134 = .ok (.iload 4, 2) := dk_21 4 (dk_at dksX4_comes_5 20 rfl rfl)
theorem dX4_comes_136 : decode cX4_comes 136 = .ok (.invokevirtual 103, 3) := dk_182 0 103 (dk_at dksX4_comes_6 0 rfl rfl)
theorem dX4_comes_139 : decode cX4_comes 139 = .ok (.iload_n 2, 1) := dk_28 (dk_at dksX4_comes_6 3 rfl rfl)
theorem dX4_comes_140 : decode cX4_comes 140 = .ok (.aload_n 0, 1) := dk_42 (dk_at dksX4_comes_6 4 rfl rfl)
theorem dX4_comes_141 : decode cX4_comes 141 = .ok (.getfield 37, 3) := dk_180 0 37 (dk_at dksX4_comes_6 5 rfl rfl)
theorem dX4_comes_144 : decode cX4_comes 144 = .ok (.if_icmp .ne 10, 3) := dk_160 0 10 (dk_at dksX4_comes_6 8 rfl rfl)
theorem dX4_comes_147 : decode cX4_comes 147 = .ok (.aload_n 0, 1) := dk_42 (dk_at dksX4_comes_6 11 rfl rfl)
theorem dX4_comes_148 : decode cX4_comes 148 = .ok (.getfield 58, 3) := dk_180 0 58 (dk_at dksX4_comes_6 12 rfl rfl)
theorem dX4_comes_151 : decode cX4_comes 151 = .ok (.goto 4, 3) := dk_167 0 4 (dk_at dksX4_comes_6 15 rfl rfl)
theorem dX4_comes_154 : decode cX4_comes 154 = .ok (.iconst 0, 1) := dk_3 (dk_at dksX4_comes_6 18 rfl rfl)
theorem dX4_comes_155 : decode cX4_comes 155 = .ok (.iadd, 1) := dk_96 (dk_at dksX4_comes_6 19 rfl rfl)
theorem dX4_comes_156 : decode cX4_comes 156 = .ok (.istore 5, 2) := dk_54 5 (dk_at dksX4_comes_6 20 rfl rfl)
theorem dX4_comes_158 : decode cX4_comes 158 = .ok (.aload_n 0, 1) := dk_42 (dk_at dksX4_comes_6 22 rfl rfl)
theorem dX4_comes_159 : decode cX4_comes 159 = .ok (.getfield 55, 3) := dk_180 0 55 (dk_at dksX4_comes_7 0 rfl rfl)
theorem dX4_comes_162 : decode cX4_comes 162 = .ok (.ifCond .le 30, 3) := dk_158 0 30 (dk_at dksX4_comes_7 3 rfl rfl)
theorem dX4_comes_165 : decode cX4_comes 165 = .ok (.aload_n 0, 1) := dk_42 (dk_at dksX4_comes_7 6 rfl rfl)
theorem dX4_comes_166 : decode cX4_comes 166 = .ok (.invokevirtual 107, 3) := dk_182 0 107 (dk_at dksX4_comes_7 7 rfl rfl)
theorem dX4_comes_169 : decode cX4_comes 169 = .ok (.aload_n 0, 1) := dk_42 (dk_at dksX4_comes_7 10 rfl rfl)
theorem dX4_comes_170 : decode cX4_comes 170 = .ok (.getfield 55, 3) := dk_180 0 55 (dk_at dksX4_comes_7 11 rfl rfl)
theorem dX4_comes_173 : decode cX4_comes 173 = .ok (.if_icmp .ge 19, 3) := dk_162 0 19 (dk_at dksX4_comes_7 14 rfl rfl)
theorem dX4_comes_176 : decode cX4_comes 176 = .ok (.iload 5, 2) := dk_21 5 (dk_at dksX4_comes_7 17 rfl rfl)
theorem dX4_comes_178 : decode cX4_comes 178 = .ok (.iconst 2, 1) := dk_5 (dk_at dksX4_comes_7 19 rfl rfl)
theorem dX4_comes_179 : decode cX4_comes 179 = .ok (.imul, 1) := dk_104 (dk_at dksX4_comes_7 20 rfl rfl)
theorem dX4_comes_180 : decode cX4_comes 180 = .ok (.istore 5, 2) := dk_54 5 (dk_at dksX4_comes_7 21 rfl rfl)
theorem dX4_comes_182 : decode cX4_comes 182 = .ok (.aload_n 0, 1) := dk_42 (dk_at dksX4_comes_7 23 rfl rfl)
theorem dX4_comes_183 : decode cX4_comes 183 = .ok (.dup, 1) := dk_89 (dk_at dksX4_comes_8 0 rfl rfl)
theorem dX4_comes_184 : decode cX4_comes 184 = .ok (.getfield 52, 3) := dk_180 0 52 (dk_at dksX4_comes_8 1 rfl rfl)
theorem dX4_comes_187 : decode cX4_comes 187 = .ok (.iconst 1, 1) := dk_4 (dk_at dksX4_comes_8 4 rfl rfl)
theorem dX4_comes_188 : decode cX4_comes 188 = .ok (.iadd, 1) := dk_96 (dk_at dksX4_comes_8 5 rfl rfl)
theorem dX4_comes_189 : decode cX4_comes 189 = .ok (.putfield 52, 3) := dk_181 0 52 (dk_at dksX4_comes_8 6 rfl rfl)
theorem dX4_comes_192 : decode cX4_comes 192 = .ok (.aload_n 0, 1) := dk_42 (dk_at dksX4_comes_8 9 rfl rfl)
theorem dX4_comes_193 : decode cX4_comes 193 = .ok (.getfield 9, 3) := dk_180 0 9 (dk_at dksX4_comes_8 10 rfl rfl)
theorem dX4_comes_196 : decode cX4_comes 196 = .ok (.iload_n 1, 1) := dk_27 (dk_at dksX4_comes_8 13 rfl rfl)
theorem dX4_comes_197 : decode cX4_comes 197 = .ok (.iload 4, 2) := dk_21 4 (dk_at dksX4_comes_8 14 rfl rfl)
theorem dX4_comes_199 : decode cX4_comes 199 = .ok (.iastore, 1) := dk_79 (dk_at dksX4_comes_8 16 rfl rfl)
theorem dX4_comes_200 : decode cX4_comes 200 = .ok (.aload_n 0, 1) := dk_42 (dk_at dksX4_comes_8 17 rfl rfl)
theorem dX4_comes_201 : decode cX4_comes 201 = .ok (.getfield 15, 3) := dk_180 0 15 (dk_at dksX4_comes_8 18 rfl rfl)
theorem dX4_comes_204 : decode cX4_comes 204 = .ok (.iload_n 1, 1) := dk_27 (dk_at dksX4_comes_8 21 rfl rfl)
theorem dX4_comes_205 : decode cX4_comes 205 = .ok (.iload 4, 2) := dk_21 4 (dk_at dksX4_comes_8 22 rfl rfl)
theorem dX4_comes_207 : decode cX4_comes 207 = .ok (.iload 5, 2) := dk_21 5 (dk_at dksX4_comes_9 0 rfl rfl)
theorem dX4_comes_209 : decode cX4_comes 209 = .ok (.iadd, 1) := dk_96 (dk_at dksX4_comes_9 2 rfl rfl)
theorem dX4_comes_210 : decode cX4_comes 210 = .ok (.iastore, 1) := dk_79 (dk_at dksX4_comes_9 3 rfl rfl)
theorem dX4_comes_211 : decode cX4_comes 211 = .ok (.aload_n 0, 1) := dk_42 (dk_at dksX4_comes_9 4 rfl rfl)
theorem dX4_comes_212 : decode cX4_comes 212 = .ok (.getfield 18, 3) := dk_180 0 18 (dk_at dksX4_comes_9 5 rfl rfl)
theorem dX4_comes_215 : decode cX4_comes 215 = .ok (.iload_n 2, 1) := dk_28 (dk_at dksX4_comes_9 8 rfl rfl)
theorem dX4_comes_216 : decode cX4_comes 216 = .ok (.aload_n 0, 1) := dk_42 (dk_at dksX4_comes_9 9 rfl rfl)
theorem dX4_comes_217 : decode cX4_comes 217 = .ok (.getfield 15, 3) := dk_180 0 15 (dk_at dksX4_comes_9 10 rfl rfl)
theorem dX4_comes_220 : decode cX4_comes 220 = .ok (.iload_n 1, 1) := dk_27 (dk_at dksX4_comes_9 13 rfl rfl)
theorem dX4_comes_221 : decode cX4_comes 221 = .ok (.iaload, 1) := dk_46 (dk_at dksX4_comes_9 14 rfl rfl)
theorem dX4_comes_222 : decode cX4_comes 222 = .ok (.iastore, 1) := dk_79 (dk_at dksX4_comes_9 15 rfl rfl)
theorem dX4_comes_223 : decode cX4_comes 223 = .ok (.aload_n 0, 1) := dk_42 (dk_at dksX4_comes_9 16 rfl rfl)
theorem dX4_comes_224 : decode cX4_comes 224 = .ok (.aload_n 0, 1) := dk_42 (dk_at dksX4_comes_9 17 rfl rfl)
theorem dX4_comes_225 : decode cX4_comes 225 = .ok (.getfield 49, 3) := dk_180 0 49 (dk_at dksX4_comes_9 18 rfl rfl)
theorem dX4_comes_228 : decode cX4_comes 228 = .ok (.aload_n 0, 1) := dk_42 (dk_at dksX4_comes_9 21 rfl rfl)
theorem dX4_comes_229 : decode cX4_comes 229 = .ok (.getfield 15, 3) := dk_180 0 15 (dk_at dksX4_comes_10 0 rfl rfl)
theorem dX4_comes_232 : decode cX4_comes 232 = .ok (.iload_n 1, 1) := dk_27 (dk_at dksX4_comes_10 3 rfl rfl)
theorem dX4_comes_233 : decode cX4_comes 233 = .ok (.iaload, 1) := dk_46 (dk_at dksX4_comes_10 4 rfl rfl)
theorem dX4_comes_234 : decode cX4_comes 234 = .ok (.invokestatic 94, 3) := dk_184 0 94 (dk_at dksX4_comes_10 5 rfl rfl)
theorem dX4_comes_237 : decode cX4_comes 237 = .ok (.putfield 49, 3) := dk_181 0 49 (dk_at dksX4_comes_10 8 rfl rfl)
theorem dX4_comes_240 : decode cX4_comes 240 = .ok (.aload_n 0, 1) := dk_42 (dk_at dksX4_comes_10 11 rfl rfl)
theorem dX4_comes_241 : decode cX4_comes 241 = .ok (.getfield 45, 3) := dk_180 0 45 (dk_at dksX4_comes_10 12 rfl rfl)
theorem dX4_comes_244 : decode cX4_comes 244 = .ok (.getfield 111, 3) := dk_180 0 111 (dk_at dksX4_comes_10 15 rfl rfl)
theorem dX4_comes_247 : decode cX4_comes 247 = .ok (.iload_n 2, 1) := dk_28 (dk_at dksX4_comes_10 18 rfl rfl)
theorem dX4_comes_248 : decode cX4_comes 248 = .ok (.iaload, 1) := dk_46 (dk_at dksX4_comes_10 19 rfl rfl)
theorem dX4_comes_249 : decode cX4_comes 249 = .ok (.iconst 1, 1) := dk_4 (dk_at dksX4_comes_10 20 rfl rfl)
theorem dX4_comes_250 : decode cX4_comes 250 = .ok (.if_icmp .ne 21, 3) := dk_160 0 21 (dk_at dksX4_comes_10 21 rfl rfl)
theorem dX4_comes_253 : decode cX4_comes 253 = .ok (.aload_n 0, 1) := dk_42 (dk_at dksX4_comes_11 0 rfl rfl)
theorem dX4_comes_254 : decode cX4_comes 254 = .ok (.getfield 45, 3) := dk_180 0 45 (dk_at dksX4_comes_11 1 rfl rfl)
theorem dX4_comes_257 : decode cX4_comes 257 = .ok (.iload 4, 2) := dk_21 4 (dk_at dksX4_comes_11 4 rfl rfl)
theorem dX4_comes_259 : decode cX4_comes 259 = .ok (.aload_n 0, 1) := dk_42 (dk_at dksX4_comes_11 6 rfl rfl)
theorem dX4_comes_260 : decode cX4_comes 260 = .ok (.getfield 15, 3) := dk_180 0 15 (dk_at dksX4_comes_11 7 rfl rfl)
theorem dX4_comes_263 : decode cX4_comes 263 = .ok (.iload_n 1, 1) := dk_27 (dk_at dksX4_comes_11 10 rfl rfl)
theorem dX4_comes_264 : decode cX4_comes 264 = .ok (.iaload, 1) := dk_46 (dk_at dksX4_comes_11 11 rfl rfl)
theorem dX4_comes_265 : decode cX4_comes 265 = .ok (.invokevirtual 114, 3) := dk_182 0 114 (dk_at dksX4_comes_11 12 rfl rfl)
theorem dX4_comes_268 : decode cX4_comes 268 = .ok (.goto 4, 3) := dk_167 0 4 (dk_at dksX4_comes_11 15 rfl rfl)
theorem dX4_comes_271 : decode cX4_comes 271 = .ok (.iconst 0, 1) := dk_3 (dk_at dksX4_comes_11 18 rfl rfl)
theorem dX4_comes_272 : decode cX4_comes 272 = .ok (.istore 6, 2) := dk_54 6 (dk_at dksX4_comes_11 19 rfl rfl)
theorem dX4_comes_274 : decode cX4_comes 274 = .ok (.iconst 0, 1) := dk_3 (dk_at dksX4_comes_11 21 rfl rfl)
theorem dX4_comes_275 : decode cX4_comes 275 = .ok (.istore 7, 2) := dk_54 7 (dk_at dksX4_comes_11 22 rfl rfl)
theorem dX4_comes_277 : decode cX4_comes 277 = .ok (.iload 7, 2) := dk_21 7 (dk_at dksX4_comes_12 0 rfl rfl)
theorem dX4_comes_279 : decode cX4_comes 279 = .ok (.aload_n 0, 1) := dk_42 (dk_at dksX4_comes_12 2 rfl rfl)
theorem dX4_comes_280 : decode cX4_comes 280 = .ok (.getfield 45, 3) := dk_180 0 45 (dk_at dksX4_comes_12 3 rfl rfl)
theorem dX4_comes_283 : decode cX4_comes 283 = .ok (.getfield 100, 3) := dk_180 0 100 (dk_at dksX4_comes_12 6 rfl rfl)
theorem dX4_comes_286 : decode cX4_comes 286 = .ok (.if_icmp .ge 35, 3) := dk_162 0 35 (dk_at dksX4_comes_12 9 rfl rfl)
theorem dX4_comes_289 : decode cX4_comes 289 = .ok (.iload_n 3, 1) := dk_29 (dk_at dksX4_comes_12 12 rfl rfl)
theorem dX4_comes_290 : decode cX4_comes 290 = .ok (.iload 7, 2) := dk_21 7 (dk_at dksX4_comes_12 13 rfl rfl)
theorem dX4_comes_292 : decode cX4_comes 292 = .ok (.ishr, 1) := dk_122 (dk_at dksX4_comes_12 15 rfl rfl)
theorem dX4_comes_293 : decode cX4_comes 293 = .ok (.iconst 1, 1) := dk_4 (dk_at dksX4_comes_12 16 rfl rfl)
theorem dX4_comes_294 : decode cX4_comes 294 = .ok (.iand, 1) := dk_126 (dk_at dksX4_comes_12 17 rfl rfl)
theorem dX4_comes_295 : decode cX4_comes 295 = .ok (.iconst 1, 1) := dk_4 (dk_at dksX4_comes_12 18 rfl rfl)
theorem dX4_comes_296 : decode cX4_comes 296 = .ok (.if_icmp .ne 19, 3) := dk_160 0 19 (dk_at dksX4_comes_12 19 rfl rfl)
theorem dX4_comes_299 : decode cX4_comes 299 = .ok (.aload_n 0, 1) := dk_42 (dk_at dksX4_comes_12 22 rfl rfl)
theorem dX4_comes_300 : decode cX4_comes 300 = .ok (.iload 7, 2) := dk_21 7 (dk_at dksX4_comes_13 0 rfl rfl)
theorem dX4_comes_302 : decode cX4_comes 302 = .ok (.aload_n 0, 1) := dk_42 (dk_at dksX4_comes_13 2 rfl rfl)
theorem dX4_comes_303 : decode cX4_comes 303 = .ok (.getfield 15, 3) := dk_180 0 15 (dk_at dksX4_comes_13 3 rfl rfl)
theorem dX4_comes_306 : decode cX4_comes 306 = .ok (.iload_n 1, 1) := dk_27 (dk_at dksX4_comes_13 6 rfl rfl)
theorem dX4_comes_307 : decode cX4_comes 307 = .ok (.iaload, 1) := dk_46 (dk_at dksX4_comes_13 7 rfl rfl)
theorem dX4_comes_308 : decode cX4_comes 308 = .ok (.iload 5, 2) := dk_21 5 (dk_at dksX4_comes_13 8 rfl rfl)
theorem dX4_comes_310 : decode cX4_comes 310 = .ok (.iload 6, 2) := dk_21 6 (dk_at dksX4_comes_13 10 rfl rfl)
theorem dX4_comes_312 : decode cX4_comes 312 = .ok (.invokevirtual 117, 3) := dk_182 0 117 (dk_at dksX4_comes_13 12 rfl rfl)
theorem dX4_comes_315 : decode cX4_comes 315 = .ok (.iinc 7 1, 3) := dk_132 7 1 (dk_at dksX4_comes_13 15 rfl rfl)
theorem dX4_comes_318 : decode cX4_comes 318 = .ok (.goto (-41), 3) := dk_167 255 215 (dk_at dksX4_comes_13 18 rfl rfl)
theorem dX4_comes_321 : decode cX4_comes 321 = .ok (.iconst 1, 1) := dk_4 (dk_at dksX4_comes_13 21 rfl rfl)
theorem dX4_comes_322 : decode cX4_comes 322 = .ok (.ireturn, 1) := dk_172 (dk_at dksX4_comes_13 22 rfl rfl)
abbrev cX4_isReady : ByteArray := prog_16_method_7_code
def yX4_isReady : MethodName := ⟨RX4, "isReady", "(I)Z"⟩
def dkwX4_isReady_1 : List UInt8 := [42, 180, 0, 18, 28, 46, 2, 160, 0, 5, 3, 172, 132, 2, 1, 167, 255, 219, 4, 172]
abbrev dktX4_isReady_1 : List UInt8 := dkwX4_isReady_1 ++ []
def dkwX4_isReady_0 : List UInt8 := [3, 61, 28, 27, 162, 0, 38, 42, 180, 0, 45, 180, 0, 83, 27, 46, 28, 122, 4, 126, 4, 160, 0, 15]
abbrev dktX4_isReady_0 : List UInt8 := dkwX4_isReady_0 ++ dktX4_isReady_1
theorem dksX4_isReady_0 : cX4_isReady.data.toList.drop 0 = dktX4_isReady_0 := by decide +kernel
theorem dksX4_isReady_1 : cX4_isReady.data.toList.drop 24 = dktX4_isReady_1 := dk_seg dksX4_isReady_0 24 rfl rfl
theorem dX4_isReady_0 : decode cX4_isReady 0 = .ok (.iconst 0, 1) := dk_3 (dk_at dksX4_isReady_0 0 rfl rfl)
theorem dX4_isReady_1 : decode cX4_isReady 1 = .ok (.istore_n 2, 1) := dk_61 (dk_at dksX4_isReady_0 1 rfl rfl)
theorem dX4_isReady_2 : decode cX4_isReady 2 = .ok (.iload_n 2, 1) := dk_28 (dk_at dksX4_isReady_0 2 rfl rfl)
theorem dX4_isReady_3 : decode cX4_isReady 3 = .ok (.iload_n 1, 1) := dk_27 (dk_at dksX4_isReady_0 3 rfl rfl)
theorem dX4_isReady_4 : decode cX4_isReady 4 = .ok (.if_icmp .ge 38, 3) := dk_162 0 38 (dk_at dksX4_isReady_0 4 rfl rfl)
theorem dX4_isReady_7 : decode cX4_isReady 7 = .ok (.aload_n 0, 1) := dk_42 (dk_at dksX4_isReady_0 7 rfl rfl)
theorem dX4_isReady_8 : decode cX4_isReady 8 = .ok (.getfield 45, 3) := dk_180 0 45 (dk_at dksX4_isReady_0 8 rfl rfl)
theorem dX4_isReady_11 : decode cX4_isReady 11 = .ok (.getfield 83, 3) := dk_180 0 83 (dk_at dksX4_isReady_0 11 rfl rfl)
theorem dX4_isReady_14 : decode cX4_isReady 14 = .ok (.iload_n 1, 1) := dk_27 (dk_at dksX4_isReady_0 14 rfl rfl)
theorem dX4_isReady_15 : decode cX4_isReady 15 = .ok (.iaload, 1) := dk_46 (dk_at dksX4_isReady_0 15 rfl rfl)
theorem dX4_isReady_16 : decode cX4_isReady 16 = .ok (.iload_n 2, 1) := dk_28 (dk_at dksX4_isReady_0 16 rfl rfl)
theorem dX4_isReady_17 : decode cX4_isReady 17 = .ok (.ishr, 1) := dk_122 (dk_at dksX4_isReady_0 17 rfl rfl)
theorem dX4_isReady_18 : decode cX4_isReady 18 = .ok (.iconst 1, 1) := dk_4 (dk_at dksX4_isReady_0 18 rfl rfl)
theorem dX4_isReady_19 : decode cX4_isReady 19 = .ok (.iand, 1) := dk_126 (dk_at dksX4_isReady_0 19 rfl rfl)
theorem dX4_isReady_20 : decode cX4_isReady 20 = .ok (.iconst 1, 1) := dk_4 (dk_at dksX4_isReady_0 20 rfl rfl)
theorem dX4_isReady_21 : decode cX4_isReady 21 = .ok (.if_icmp .ne 15, 3) := dk_160 0 15 (dk_at dksX4_isReady_0 21 rfl rfl)
theorem dX4_isReady_24 : decode cX4_isReady 24 = .ok (.aload_n 0, 1) := dk_42 (dk_at dksX4_isReady_1 0 rfl rfl)
theorem dX4_isReady_25 : decode cX4_isReady 25 = .ok (.getfield 18, 3) := dk_180 0 18 (dk_at dksX4_isReady_1 1 rfl rfl)
theorem dX4_isReady_28 : decode cX4_isReady 28 = .ok (.iload_n 2, 1) := dk_28 (dk_at dksX4_isReady_1 4 rfl rfl)
theorem dX4_isReady_29 : decode cX4_isReady 29 = .ok (.iaload, 1) := dk_46 (dk_at dksX4_isReady_1 5 rfl rfl)
theorem dX4_isReady_30 : decode cX4_isReady 30 = .ok (.iconst (-1), 1) := dk_2 (dk_at dksX4_isReady_1 6 rfl rfl)
theorem dX4_isReady_31 : decode cX4_isReady 31 = .ok (.if_icmp .ne 5, 3) := dk_160 0 5 (dk_at dksX4_isReady_1 7 rfl rfl)
theorem dX4_isReady_34 : decode cX4_isReady 34 = .ok (.iconst 0, 1) := dk_3 (dk_at dksX4_isReady_1 10 rfl rfl)
theorem dX4_isReady_35 : decode cX4_isReady 35 = .ok (.ireturn, 1) := dk_172 (dk_at dksX4_isReady_1 11 rfl rfl)
theorem dX4_isReady_36 : decode cX4_isReady 36 = .ok (.iinc 2 1, 3) := dk_132 2 1 (dk_at dksX4_isReady_1 12 rfl rfl)
theorem dX4_isReady_39 : decode cX4_isReady 39 = .ok (.goto (-37), 3) := dk_167 255 219 (dk_at dksX4_isReady_1 15 rfl rfl)
theorem dX4_isReady_42 : decode cX4_isReady 42 = .ok (.iconst 1, 1) := dk_4 (dk_at dksX4_isReady_1 18 rfl rfl)
theorem dX4_isReady_43 : decode cX4_isReady 43 = .ok (.ireturn, 1) := dk_172 (dk_at dksX4_isReady_1 19 rfl rfl)
abbrev cX4_lasts : ByteArray := prog_16_method_10_code
def yX4_lasts : MethodName := ⟨RX4, "lasts", "(III)I"⟩
def dkwX4_lasts_5 : List UInt8 := [180, 0, 33, 182, 0, 149, 172]
abbrev dktX4_lasts_5 : List UInt8 := dkwX4_lasts_5 ++ []
def dkwX4_lasts_4 : List UInt8 := [181, 0, 144, 42, 180, 0, 33, 42, 180, 0, 45, 180, 0, 111, 27, 46, 181, 0, 147, 42, 180, 0, 41, 42]
abbrev dktX4_lasts_4 : List UInt8 := dkwX4_lasts_4 ++ dktX4_lasts_5
def dkwX4_lasts_3 : List UInt8 := [180, 0, 45, 29, 182, 0, 138, 153, 0, 7, 4, 167, 0, 4, 3, 181, 0, 141, 42, 180, 0, 33, 29]
abbrev dktX4_lasts_3 : List UInt8 := dkwX4_lasts_3 ++ dktX4_lasts_4
def dkwX4_lasts_2 : List UInt8 := [180, 0, 33, 42, 180, 0, 45, 180, 0, 111, 27, 46, 4, 160, 0, 25, 29, 17, 0, 240, 163, 0, 18, 42]
abbrev dktX4_lasts_2 : List UInt8 := dkwX4_lasts_2 ++ dktX4_lasts_3
def dkwX4_lasts_1 : List UInt8 := [180, 0, 126, 27, 46, 181, 0, 129, 42, 180, 0, 33, 42, 180, 0, 45, 28, 182, 0, 131, 181, 0, 135, 42]
abbrev dktX4_lasts_1 : List UInt8 := dkwX4_lasts_1 ++ dktX4_lasts_2
def dkwX4_lasts_0 : List UInt8 := [42, 180, 0, 33, 42, 180, 0, 45, 180, 0, 121, 27, 46, 181, 0, 124, 42, 180, 0, 33, 42, 180, 0, 45]
abbrev dktX4_lasts_0 : List UInt8 := dkwX4_lasts_0 ++ dktX4_lasts_1
theorem dksX4_lasts_0 : cX4_lasts.data.toList.drop 0 = dktX4_lasts_0 := by decide +kernel
theorem dksX4_lasts_1 : cX4_lasts.data.toList.drop 24 = dktX4_lasts_1 := dk_seg dksX4_lasts_0 24 rfl rfl
theorem dksX4_lasts_2 : cX4_lasts.data.toList.drop 48 = dktX4_lasts_2 := dk_seg dksX4_lasts_1 24 rfl rfl
theorem dksX4_lasts_3 : cX4_lasts.data.toList.drop 72 = dktX4_lasts_3 := dk_seg dksX4_lasts_2 24 rfl rfl
theorem dksX4_lasts_4 : cX4_lasts.data.toList.drop 95 = dktX4_lasts_4 := dk_seg dksX4_lasts_3 23 rfl rfl
theorem dksX4_lasts_5 : cX4_lasts.data.toList.drop 119 = dktX4_lasts_5 := dk_seg dksX4_lasts_4 24 rfl rfl
theorem dX4_lasts_0 : decode cX4_lasts 0 = .ok (.aload_n 0, 1) := dk_42 (dk_at dksX4_lasts_0 0 rfl rfl)
theorem dX4_lasts_1 : decode cX4_lasts 1 = .ok (.getfield 33, 3) := dk_180 0 33 (dk_at dksX4_lasts_0 1 rfl rfl)
theorem dX4_lasts_4 : decode cX4_lasts 4 = .ok (.aload_n 0, 1) := dk_42 (dk_at dksX4_lasts_0 4 rfl rfl)
theorem dX4_lasts_5 : decode cX4_lasts 5 = .ok (.getfield 45, 3) := dk_180 0 45 (dk_at dksX4_lasts_0 5 rfl rfl)
theorem dX4_lasts_8 : decode cX4_lasts 8 = .ok (.getfield 121, 3) := dk_180 0 121 (dk_at dksX4_lasts_0 8 rfl rfl)
theorem dX4_lasts_11 : decode cX4_lasts 11 = .ok (.iload_n 1, 1) := dk_27 (dk_at dksX4_lasts_0 11 rfl rfl)
theorem dX4_lasts_12 : decode cX4_lasts 12 = .ok (.iaload, 1) := dk_46 (dk_at dksX4_lasts_0 12 rfl rfl)
theorem dX4_lasts_13 : decode cX4_lasts 13 = .ok (.putfield 124, 3) := dk_181 0 124 (dk_at dksX4_lasts_0 13 rfl rfl)
theorem dX4_lasts_16 : decode cX4_lasts 16 = .ok (.aload_n 0, 1) := dk_42 (dk_at dksX4_lasts_0 16 rfl rfl)
theorem dX4_lasts_17 : decode cX4_lasts 17 = .ok (.getfield 33, 3) := dk_180 0 33 (dk_at dksX4_lasts_0 17 rfl rfl)
theorem dX4_lasts_20 : decode cX4_lasts 20 = .ok (.aload_n 0, 1) := dk_42 (dk_at dksX4_lasts_0 20 rfl rfl)
theorem dX4_lasts_21 : decode cX4_lasts 21 = .ok (.getfield 45, 3) := dk_180 0 45 (dk_at dksX4_lasts_0 21 rfl rfl)
theorem dX4_lasts_24 : decode cX4_lasts 24 = .ok (.getfield 126, 3) := dk_180 0 126 (dk_at dksX4_lasts_1 0 rfl rfl)
theorem dX4_lasts_27 : decode cX4_lasts 27 = .ok (.iload_n 1, 1) := dk_27 (dk_at dksX4_lasts_1 3 rfl rfl)
theorem dX4_lasts_28 : decode cX4_lasts 28 = .ok (.iaload, 1) := dk_46 (dk_at dksX4_lasts_1 4 rfl rfl)
theorem dX4_lasts_29 : decode cX4_lasts 29 = .ok (.putfield 129, 3) := dk_181 0 129 (dk_at dksX4_lasts_1 5 rfl rfl)
theorem dX4_lasts_32 : decode cX4_lasts 32 = .ok (.aload_n 0, 1) := dk_42 (dk_at dksX4_lasts_1 8 rfl rfl)
theorem dX4_lasts_33 : decode cX4_lasts 33 = .ok (.getfield 33, 3) := dk_180 0 33 (dk_at dksX4_lasts_1 9 rfl rfl)
theorem dX4_lasts_36 : decode cX4_lasts 36 = .ok (.aload_n 0, 1) := dk_42 (dk_at dksX4_lasts_1 12 rfl rfl)
theorem dX4_lasts_37 : decode cX4_lasts 37 = .ok (.getfield 45, 3) := dk_180 0 45 (dk_at dksX4_lasts_1 13 rfl rfl)
theorem dX4_lasts_40 : decode cX4_lasts 40 = .ok (.iload_n 2, 1) := dk_28 (dk_at dksX4_lasts_1 16 rfl rfl)
theorem dX4_lasts_41 : decode cX4_lasts 41 = .ok (.invokevirtual 131, 3) := dk_182 0 131 (dk_at dksX4_lasts_1 17 rfl rfl)
theorem dX4_lasts_44 : decode cX4_lasts 44 = .ok (.putfield 135, 3) := dk_181 0 135 (dk_at dksX4_lasts_1 20 rfl rfl)
theorem dX4_lasts_47 : decode cX4_lasts 47 = .ok (.aload_n 0, 1) := dk_42 (dk_at dksX4_lasts_1 23 rfl rfl)
theorem dX4_lasts_48 : decode cX4_lasts 48 = .ok (.getfield 33, 3) := dk_180 0 33 (dk_at dksX4_lasts_2 0 rfl rfl)
theorem dX4_lasts_51 : decode cX4_lasts 51 = .ok (.aload_n 0, 1) := dk_42 (dk_at dksX4_lasts_2 3 rfl rfl)
theorem dX4_lasts_52 : decode cX4_lasts 52 = .ok (.getfield 45, 3) := dk_180 0 45 (dk_at dksX4_lasts_2 4 rfl rfl)
theorem dX4_lasts_55 : decode cX4_lasts 55 = .ok (.getfield 111, 3) := dk_180 0 111 (dk_at dksX4_lasts_2 7 rfl rfl)
theorem dX4_lasts_58 : decode cX4_lasts 58 = .ok (.iload_n 1, 1) := dk_27 (dk_at dksX4_lasts_2 10 rfl rfl)
theorem dX4_lasts_59 : decode cX4_lasts 59 = .ok (.iaload, 1) := dk_46 (dk_at dksX4_lasts_2 11 rfl rfl)
theorem dX4_lasts_60 : decode cX4_lasts 60 = .ok (.iconst 1, 1) := dk_4 (dk_at dksX4_lasts_2 12 rfl rfl)
theorem dX4_lasts_61 : decode cX4_lasts 61 = .ok (.if_icmp .ne 25, 3) := dk_160 0 25 (dk_at dksX4_lasts_2 13 rfl rfl)
theorem dX4_lasts_64 : decode cX4_lasts 64 = .ok (.iload_n 3, 1) := dk_29 (dk_at dksX4_lasts_2 16 rfl rfl)
theorem dX4_lasts_65 : decode cX4_lasts 65 = .ok (.sipush 240, 3) := dk_17 0 240 (dk_at dksX4_lasts_2 17 rfl rfl)
theorem dX4_lasts_68 : decode cX4_lasts 68 = .ok (.if_icmp .gt 18, 3) := dk_163 0 18 (dk_at dksX4_lasts_2 20 rfl rfl)
theorem dX4_lasts_71 : decode cX4_lasts 71 = .ok (.aload_n 0, 1) := dk_42 (dk_at dksX4_lasts_2 23 rfl rfl)
theorem dX4_lasts_72 : decode cX4_lasts 72 = .ok (.getfield 45, 3) := dk_180 0 45 (dk_at dksX4_lasts_3 0 rfl rfl)
theorem dX4_lasts_75 : decode cX4_lasts 75 = .ok (.iload_n 3, 1) := dk_29 (dk_at dksX4_lasts_3 3 rfl rfl)
theorem dX4_lasts_76 : decode cX4_lasts 76 = .ok (.invokevirtual 138, 3) := dk_182 0 138 (dk_at dksX4_lasts_3 4 rfl rfl)
theorem dX4_lasts_79 : decode cX4_lasts 79 = .ok (.ifCond .eq 7, 3) := dk_153 0 7 (dk_at dksX4_lasts_3 7 rfl rfl)
theorem dX4_lasts_82 : decode cX4_lasts 82 = .ok (.iconst 1, 1) := dk_4 (dk_at dksX4_lasts_3 10 rfl rfl)
theorem dX4_lasts_83 : decode cX4_lasts 83 = .ok (.goto 4, 3) := dk_167 0 4 (dk_at dksX4_lasts_3 11 rfl rfl)
theorem dX4_lasts_86 : decode cX4_lasts 86 = .ok (.iconst 0, 1) := dk_3 (dk_at dksX4_lasts_3 14 rfl rfl)
theorem dX4_lasts_87 : decode cX4_lasts 87 = .ok (.putfield 141, 3) := dk_181 0 141 (dk_at dksX4_lasts_3 15 rfl rfl)
theorem dX4_lasts_90 : decode cX4_lasts 90 = .ok (.aload_n 0, 1) := dk_42 (dk_at dksX4_lasts_3 18 rfl rfl)
theorem dX4_lasts_91 : decode cX4_lasts 91 = .ok (.getfield 33, 3) := dk_180 0 33 (dk_at dksX4_lasts_3 19 rfl rfl)
theorem dX4_lasts_94 : decode cX4_lasts 94 = .ok (.iload_n 3, 1) := dk_29 (dk_at dksX4_lasts_3 22 rfl rfl)
theorem dX4_lasts_95 : decode cX4_lasts 95 = .ok (.putfield 144, 3) := dk_181 0 144 (dk_at dksX4_lasts_4 0 rfl rfl)
theorem dX4_lasts_98 : decode cX4_lasts 98 = .ok (.aload_n 0, 1) := dk_42 (dk_at dksX4_lasts_4 3 rfl rfl)
theorem dX4_lasts_99 : decode cX4_lasts 99 = .ok (.getfield 33, 3) := dk_180 0 33 (dk_at dksX4_lasts_4 4 rfl rfl)
theorem dX4_lasts_102 : decode cX4_lasts 102 = .ok (.aload_n 0, 1) := dk_42 (dk_at dksX4_lasts_4 7 rfl rfl)
theorem dX4_lasts_103 : decode cX4_lasts 103 = .ok (.getfield 45, 3) := dk_180 0 45 (dk_at dksX4_lasts_4 8 rfl rfl)
theorem dX4_lasts_106 : decode cX4_lasts 106 = .ok (.getfield 111, 3) := dk_180 0 111 (dk_at dksX4_lasts_4 11 rfl rfl)
theorem dX4_lasts_109 : decode cX4_lasts 109 = .ok (.iload_n 1, 1) := dk_27 (dk_at dksX4_lasts_4 14 rfl rfl)
theorem dX4_lasts_110 : decode cX4_lasts 110 = .ok (.iaload, 1) := dk_46 (dk_at dksX4_lasts_4 15 rfl rfl)
theorem dX4_lasts_111 : decode cX4_lasts 111 = .ok (.putfield 147, 3) := dk_181 0 147 (dk_at dksX4_lasts_4 16 rfl rfl)
theorem dX4_lasts_114 : decode cX4_lasts 114 = .ok (.aload_n 0, 1) := dk_42 (dk_at dksX4_lasts_4 19 rfl rfl)
theorem dX4_lasts_115 : decode cX4_lasts 115 = .ok (.getfield 41, 3) := dk_180 0 41 (dk_at dksX4_lasts_4 20 rfl rfl)
theorem dX4_lasts_118 : decode cX4_lasts 118 = .ok (.aload_n 0, 1) := dk_42 (dk_at dksX4_lasts_4 23 rfl rfl)
theorem dX4_lasts_119 : decode cX4_lasts 119 = .ok (.getfield 33, 3) := dk_180 0 33 (dk_at dksX4_lasts_5 0 rfl rfl)
theorem dX4_lasts_122 : decode cX4_lasts 122 = .ok (.invokevirtual 149, 3) := dk_182 0 149 (dk_at dksX4_lasts_5 3 rfl rfl)
theorem dX4_lasts_125 : decode cX4_lasts 125 = .ok (.ireturn, 1) := dk_172 (dk_at dksX4_lasts_5 6 rfl rfl)
abbrev cX4_draw : ByteArray := prog_16_method_5_code
def yX4_draw : MethodName := ⟨RX4, "draw", "()I"⟩
def dkwX4_draw_1 : List UInt8 := [17, 127, 255, 126, 16, 16, 112, 172]
abbrev dktX4_draw_1 : List UInt8 := dkwX4_draw_1 ++ []
def dkwX4_draw_0 : List UInt8 := [42, 42, 180, 0, 61, 18, 67, 104, 17, 48, 57, 96, 181, 0, 61, 42, 180, 0, 61, 16, 16, 122]
abbrev dktX4_draw_0 : List UInt8 := dkwX4_draw_0 ++ dktX4_draw_1
theorem dksX4_draw_0 : cX4_draw.data.toList.drop 0 = dktX4_draw_0 := by decide +kernel
theorem dksX4_draw_1 : cX4_draw.data.toList.drop 22 = dktX4_draw_1 := dk_seg dksX4_draw_0 22 rfl rfl
theorem dX4_draw_0 : decode cX4_draw 0 = .ok (.aload_n 0, 1) := dk_42 (dk_at dksX4_draw_0 0 rfl rfl)
theorem dX4_draw_1 : decode cX4_draw 1 = .ok (.aload_n 0, 1) := dk_42 (dk_at dksX4_draw_0 1 rfl rfl)
theorem dX4_draw_2 : decode cX4_draw 2 = .ok (.getfield 61, 3) := dk_180 0 61 (dk_at dksX4_draw_0 2 rfl rfl)
theorem dX4_draw_5 : decode cX4_draw 5 = .ok (.ldc 67, 2) := dk_18 67 (dk_at dksX4_draw_0 5 rfl rfl)
theorem dX4_draw_7 : decode cX4_draw 7 = .ok (.imul, 1) := dk_104 (dk_at dksX4_draw_0 7 rfl rfl)
theorem dX4_draw_8 : decode cX4_draw 8 = .ok (.sipush 12345, 3) := dk_17 48 57 (dk_at dksX4_draw_0 8 rfl rfl)
theorem dX4_draw_11 : decode cX4_draw 11 = .ok (.iadd, 1) := dk_96 (dk_at dksX4_draw_0 11 rfl rfl)
theorem dX4_draw_12 : decode cX4_draw 12 = .ok (.putfield 61, 3) := dk_181 0 61 (dk_at dksX4_draw_0 12 rfl rfl)
theorem dX4_draw_15 : decode cX4_draw 15 = .ok (.aload_n 0, 1) := dk_42 (dk_at dksX4_draw_0 15 rfl rfl)
theorem dX4_draw_16 : decode cX4_draw 16 = .ok (.getfield 61, 3) := dk_180 0 61 (dk_at dksX4_draw_0 16 rfl rfl)
theorem dX4_draw_19 : decode cX4_draw 19 = .ok (.bipush 16, 2) := dk_16 16 (dk_at dksX4_draw_0 19 rfl rfl)
theorem dX4_draw_21 : decode cX4_draw 21 = .ok (.ishr, 1) := dk_122 (dk_at dksX4_draw_0 21 rfl rfl)
theorem dX4_draw_22 : decode cX4_draw 22 = .ok (.sipush 32767, 3) := dk_17 127 255 (dk_at dksX4_draw_1 0 rfl rfl)
theorem dX4_draw_25 : decode cX4_draw 25 = .ok (.iand, 1) := dk_126 (dk_at dksX4_draw_1 3 rfl rfl)
theorem dX4_draw_26 : decode cX4_draw 26 = .ok (.bipush 16, 2) := dk_16 16 (dk_at dksX4_draw_1 4 rfl rfl)
theorem dX4_draw_28 : decode cX4_draw 28 = .ok (.irem, 1) := dk_112 (dk_at dksX4_draw_1 6 rfl rfl)
theorem dX4_draw_29 : decode cX4_draw 29 = .ok (.ireturn, 1) := dk_172 (dk_at dksX4_draw_1 7 rfl rfl)
abbrev cX4_works : ByteArray := prog_16_method_9_code
def yX4_works : MethodName := ⟨RX4, "works", "(IIII)V"⟩
def dkwX4_works_1 : List UInt8 := [21, 4, 96, 79, 177]
abbrev dktX4_works_1 : List UInt8 := dkwX4_works_1 ++ []
def dkwX4_works_0 : List UInt8 := [42, 180, 0, 21, 27, 28, 79, 42, 180, 0, 27, 27, 92, 46, 29, 96, 79, 42, 180, 0, 24, 27, 92, 46]
abbrev dktX4_works_0 : List UInt8 := dkwX4_works_0 ++ dktX4_works_1
theorem dksX4_works_0 : cX4_works.data.toList.drop 0 = dktX4_works_0 := by decide +kernel
theorem dksX4_works_1 : cX4_works.data.toList.drop 24 = dktX4_works_1 := dk_seg dksX4_works_0 24 rfl rfl
theorem dX4_works_0 : decode cX4_works 0 = .ok (.aload_n 0, 1) := dk_42 (dk_at dksX4_works_0 0 rfl rfl)
theorem dX4_works_1 : decode cX4_works 1 = .ok (.getfield 21, 3) := dk_180 0 21 (dk_at dksX4_works_0 1 rfl rfl)
theorem dX4_works_4 : decode cX4_works 4 = .ok (.iload_n 1, 1) := dk_27 (dk_at dksX4_works_0 4 rfl rfl)
theorem dX4_works_5 : decode cX4_works 5 = .ok (.iload_n 2, 1) := dk_28 (dk_at dksX4_works_0 5 rfl rfl)
theorem dX4_works_6 : decode cX4_works 6 = .ok (.iastore, 1) := dk_79 (dk_at dksX4_works_0 6 rfl rfl)
theorem dX4_works_7 : decode cX4_works 7 = .ok (.aload_n 0, 1) := dk_42 (dk_at dksX4_works_0 7 rfl rfl)
theorem dX4_works_8 : decode cX4_works 8 = .ok (.getfield 27, 3) := dk_180 0 27 (dk_at dksX4_works_0 8 rfl rfl)
theorem dX4_works_11 : decode cX4_works 11 = .ok (.iload_n 1, 1) := dk_27 (dk_at dksX4_works_0 11 rfl rfl)
theorem dX4_works_12 : decode cX4_works 12 = .ok (.dup2, 1) := dk_92 (dk_at dksX4_works_0 12 rfl rfl)
theorem dX4_works_13 : decode cX4_works 13 = .ok (.iaload, 1) := dk_46 (dk_at dksX4_works_0 13 rfl rfl)
theorem dX4_works_14 : decode cX4_works 14 = .ok (.iload_n 3, 1) := dk_29 (dk_at dksX4_works_0 14 rfl rfl)
theorem dX4_works_15 : decode cX4_works 15 = .ok (.iadd, 1) := dk_96 (dk_at dksX4_works_0 15 rfl rfl)
theorem dX4_works_16 : decode cX4_works 16 = .ok (.iastore, 1) := dk_79 (dk_at dksX4_works_0 16 rfl rfl)
theorem dX4_works_17 : decode cX4_works 17 = .ok (.aload_n 0, 1) := dk_42 (dk_at dksX4_works_0 17 rfl rfl)
theorem dX4_works_18 : decode cX4_works 18 = .ok (.getfield 24, 3) := dk_180 0 24 (dk_at dksX4_works_0 18 rfl rfl)
theorem dX4_works_21 : decode cX4_works 21 = .ok (.iload_n 1, 1) := dk_27 (dk_at dksX4_works_0 21 rfl rfl)
theorem dX4_works_22 : decode cX4_works 22 = .ok (.dup2, 1) := dk_92 (dk_at dksX4_works_0 22 rfl rfl)
theorem dX4_works_23 : decode cX4_works 23 = .ok (.iaload, 1) := dk_46 (dk_at dksX4_works_0 23 rfl rfl)
theorem dX4_works_24 : decode cX4_works 24 = .ok (.iload 4, 2) := dk_21 4 (dk_at dksX4_works_1 0 rfl rfl)
theorem dX4_works_26 : decode cX4_works 26 = .ok (.iadd, 1) := dk_96 (dk_at dksX4_works_1 2 rfl rfl)
theorem dX4_works_27 : decode cX4_works 27 = .ok (.iastore, 1) := dk_79 (dk_at dksX4_works_1 3 rfl rfl)
theorem dX4_works_28 : decode cX4_works 28 = .ok (.return_, 1) := dk_177 (dk_at dksX4_works_1 4 rfl rfl)
abbrev cX4_longer : ByteArray := prog_16_method_3_code
def yX4_longer : MethodName := ⟨RX4, "longer", "(II)LRainWheel$Watch;"⟩
def dkwX4_longer_0 : List UInt8 := [42, 27, 181, 0, 37, 42, 28, 181, 0, 58, 42, 176]
abbrev dktX4_longer_0 : List UInt8 := dkwX4_longer_0 ++ []
theorem dksX4_longer_0 : cX4_longer.data.toList.drop 0 = dktX4_longer_0 := by decide +kernel
theorem dX4_longer_0 : decode cX4_longer 0 = .ok (.aload_n 0, 1) := dk_42 (dk_at dksX4_longer_0 0 rfl rfl)
theorem dX4_longer_1 : decode cX4_longer 1 = .ok (.iload_n 1, 1) := dk_27 (dk_at dksX4_longer_0 1 rfl rfl)
theorem dX4_longer_2 : decode cX4_longer 2 = .ok (.putfield 37, 3) := dk_181 0 37 (dk_at dksX4_longer_0 2 rfl rfl)
theorem dX4_longer_5 : decode cX4_longer 5 = .ok (.aload_n 0, 1) := dk_42 (dk_at dksX4_longer_0 5 rfl rfl)
theorem dX4_longer_6 : decode cX4_longer 6 = .ok (.iload_n 2, 1) := dk_28 (dk_at dksX4_longer_0 6 rfl rfl)
theorem dX4_longer_7 : decode cX4_longer 7 = .ok (.putfield 58, 3) := dk_181 0 58 (dk_at dksX4_longer_0 7 rfl rfl)
theorem dX4_longer_10 : decode cX4_longer 10 = .ok (.aload_n 0, 1) := dk_42 (dk_at dksX4_longer_0 10 rfl rfl)
theorem dX4_longer_11 : decode cX4_longer 11 = .ok (.areturn, 1) := dk_176 (dk_at dksX4_longer_0 11 rfl rfl)
abbrev cX4_allWet : ByteArray := prog_16_method_11_code
def yX4_allWet : MethodName := ⟨RX4, "allWet", "()I"⟩
def dkwX4_allWet_1 : List UInt8 := [27, 172]
abbrev dktX4_allWet_1 : List UInt8 := dkwX4_allWet_1 ++ []
def dkwX4_allWet_0 : List UInt8 := [3, 60, 3, 61, 28, 7, 162, 0, 18, 27, 42, 180, 0, 24, 28, 46, 96, 60, 132, 2, 1, 167, 255, 239]
abbrev dktX4_allWet_0 : List UInt8 := dkwX4_allWet_0 ++ dktX4_allWet_1
theorem dksX4_allWet_0 : cX4_allWet.data.toList.drop 0 = dktX4_allWet_0 := by decide +kernel
theorem dksX4_allWet_1 : cX4_allWet.data.toList.drop 24 = dktX4_allWet_1 := dk_seg dksX4_allWet_0 24 rfl rfl
theorem dX4_allWet_0 : decode cX4_allWet 0 = .ok (.iconst 0, 1) := dk_3 (dk_at dksX4_allWet_0 0 rfl rfl)
theorem dX4_allWet_1 : decode cX4_allWet 1 = .ok (.istore_n 1, 1) := dk_60 (dk_at dksX4_allWet_0 1 rfl rfl)
theorem dX4_allWet_2 : decode cX4_allWet 2 = .ok (.iconst 0, 1) := dk_3 (dk_at dksX4_allWet_0 2 rfl rfl)
theorem dX4_allWet_3 : decode cX4_allWet 3 = .ok (.istore_n 2, 1) := dk_61 (dk_at dksX4_allWet_0 3 rfl rfl)
theorem dX4_allWet_4 : decode cX4_allWet 4 = .ok (.iload_n 2, 1) := dk_28 (dk_at dksX4_allWet_0 4 rfl rfl)
theorem dX4_allWet_5 : decode cX4_allWet 5 = .ok (.iconst 4, 1) := dk_7 (dk_at dksX4_allWet_0 5 rfl rfl)
theorem dX4_allWet_6 : decode cX4_allWet 6 = .ok (.if_icmp .ge 18, 3) := dk_162 0 18 (dk_at dksX4_allWet_0 6 rfl rfl)
theorem dX4_allWet_9 : decode cX4_allWet 9 = .ok (.iload_n 1, 1) := dk_27 (dk_at dksX4_allWet_0 9 rfl rfl)
theorem dX4_allWet_10 : decode cX4_allWet 10 = .ok (.aload_n 0, 1) := dk_42 (dk_at dksX4_allWet_0 10 rfl rfl)
theorem dX4_allWet_11 : decode cX4_allWet 11 = .ok (.getfield 24, 3) := dk_180 0 24 (dk_at dksX4_allWet_0 11 rfl rfl)
theorem dX4_allWet_14 : decode cX4_allWet 14 = .ok (.iload_n 2, 1) := dk_28 (dk_at dksX4_allWet_0 14 rfl rfl)
theorem dX4_allWet_15 : decode cX4_allWet 15 = .ok (.iaload, 1) := dk_46 (dk_at dksX4_allWet_0 15 rfl rfl)
theorem dX4_allWet_16 : decode cX4_allWet 16 = .ok (.iadd, 1) := dk_96 (dk_at dksX4_allWet_0 16 rfl rfl)
theorem dX4_allWet_17 : decode cX4_allWet 17 = .ok (.istore_n 1, 1) := dk_60 (dk_at dksX4_allWet_0 17 rfl rfl)
theorem dX4_allWet_18 : decode cX4_allWet 18 = .ok (.iinc 2 1, 3) := dk_132 2 1 (dk_at dksX4_allWet_0 18 rfl rfl)
theorem dX4_allWet_21 : decode cX4_allWet 21 = .ok (.goto (-17), 3) := dk_167 255 239 (dk_at dksX4_allWet_0 21 rfl rfl)
theorem dX4_allWet_24 : decode cX4_allWet 24 = .ok (.iload_n 1, 1) := dk_27 (dk_at dksX4_allWet_1 0 rfl rfl)
theorem dX4_allWet_25 : decode cX4_allWet 25 = .ok (.ireturn, 1) := dk_172 (dk_at dksX4_allWet_1 1 rfl rfl)
abbrev cX4_as : ByteArray := prog_16_method_12_code
def yX4_as : MethodName := ⟨RX4, "as", "(LRainWheel$Watch;)LRainWheel$Watch;"⟩
def dkwX4_as_2 : List UInt8 := [184, 0, 154, 42, 43, 180, 0, 49, 181, 0, 49, 42, 176]
abbrev dktX4_as_2 : List UInt8 := dkwX4_as_2 ++ []
def dkwX4_as_1 : List UInt8 := [180, 0, 21, 3, 42, 180, 0, 21, 3, 7, 184, 0, 154, 43, 180, 0, 24, 3, 42, 180, 0, 24, 3, 7]
abbrev dktX4_as_1 : List UInt8 := dkwX4_as_1 ++ dktX4_as_2
def dkwX4_as_0 : List UInt8 := [42, 43, 180, 0, 45, 181, 0, 45, 43, 180, 0, 18, 3, 42, 180, 0, 18, 3, 16, 12, 184, 0, 154, 43]
abbrev dktX4_as_0 : List UInt8 := dkwX4_as_0 ++ dktX4_as_1
theorem dksX4_as_0 : cX4_as.data.toList.drop 0 = dktX4_as_0 := by decide +kernel
theorem dksX4_as_1 : cX4_as.data.toList.drop 24 = dktX4_as_1 := dk_seg dksX4_as_0 24 rfl rfl
theorem dksX4_as_2 : cX4_as.data.toList.drop 48 = dktX4_as_2 := dk_seg dksX4_as_1 24 rfl rfl
theorem dX4_as_0 : decode cX4_as 0 = .ok (.aload_n 0, 1) := dk_42 (dk_at dksX4_as_0 0 rfl rfl)
theorem dX4_as_1 : decode cX4_as 1 = .ok (.aload_n 1, 1) := dk_43 (dk_at dksX4_as_0 1 rfl rfl)
theorem dX4_as_2 : decode cX4_as 2 = .ok (.getfield 45, 3) := dk_180 0 45 (dk_at dksX4_as_0 2 rfl rfl)
theorem dX4_as_5 : decode cX4_as 5 = .ok (.putfield 45, 3) := dk_181 0 45 (dk_at dksX4_as_0 5 rfl rfl)
theorem dX4_as_8 : decode cX4_as 8 = .ok (.aload_n 1, 1) := dk_43 (dk_at dksX4_as_0 8 rfl rfl)
theorem dX4_as_9 : decode cX4_as 9 = .ok (.getfield 18, 3) := dk_180 0 18 (dk_at dksX4_as_0 9 rfl rfl)
theorem dX4_as_12 : decode cX4_as 12 = .ok (.iconst 0, 1) := dk_3 (dk_at dksX4_as_0 12 rfl rfl)
theorem dX4_as_13 : decode cX4_as 13 = .ok (.aload_n 0, 1) := dk_42 (dk_at dksX4_as_0 13 rfl rfl)
theorem dX4_as_14 : decode cX4_as 14 = .ok (.getfield 18, 3) := dk_180 0 18 (dk_at dksX4_as_0 14 rfl rfl)
theorem dX4_as_17 : decode cX4_as 17 = .ok (.iconst 0, 1) := dk_3 (dk_at dksX4_as_0 17 rfl rfl)
theorem dX4_as_18 : decode cX4_as 18 = .ok (.bipush 12, 2) := dk_16 12 (dk_at dksX4_as_0 18 rfl rfl)
theorem dX4_as_20 : decode cX4_as 20 = .ok (.invokestatic 154, 3) := dk_184 0 154 (dk_at dksX4_as_0 20 rfl rfl)
theorem dX4_as_23 : decode cX4_as 23 = .ok (.aload_n 1, 1) := dk_43 (dk_at dksX4_as_0 23 rfl rfl)
theorem dX4_as_24 : decode cX4_as 24 = .ok (.getfield 21, 3) := dk_180 0 21 (dk_at dksX4_as_1 0 rfl rfl)
theorem dX4_as_27 : decode cX4_as 27 = .ok (.iconst 0, 1) := dk_3 (dk_at dksX4_as_1 3 rfl rfl)
theorem dX4_as_28 : decode cX4_as 28 = .ok (.aload_n 0, 1) := dk_42 (dk_at dksX4_as_1 4 rfl rfl)
theorem dX4_as_29 : decode cX4_as 29 = .ok (.getfield 21, 3) := dk_180 0 21 (dk_at dksX4_as_1 5 rfl rfl)
theorem dX4_as_32 : decode cX4_as 32 = .ok (.iconst 0, 1) := dk_3 (dk_at dksX4_as_1 8 rfl rfl)
theorem dX4_as_33 : decode cX4_as 33 = .ok (.iconst 4, 1) := dk_7 (dk_at dksX4_as_1 9 rfl rfl)
theorem dX4_as_34 : decode cX4_as 34 = .ok (.invokestatic 154, 3) := dk_184 0 154 (dk_at dksX4_as_1 10 rfl rfl)
theorem dX4_as_37 : decode cX4_as 37 = .ok (.aload_n 1, 1) := dk_43 (dk_at dksX4_as_1 13 rfl rfl)
theorem dX4_as_38 : decode cX4_as 38 = .ok (.getfield 24, 3) := dk_180 0 24 (dk_at dksX4_as_1 14 rfl rfl)
theorem dX4_as_41 : decode cX4_as 41 = .ok (.iconst 0, 1) := dk_3 (dk_at dksX4_as_1 17 rfl rfl)
theorem dX4_as_42 : decode cX4_as 42 = .ok (.aload_n 0, 1) := dk_42 (dk_at dksX4_as_1 18 rfl rfl)
theorem dX4_as_43 : decode cX4_as 43 = .ok (.getfield 24, 3) := dk_180 0 24 (dk_at dksX4_as_1 19 rfl rfl)
theorem dX4_as_46 : decode cX4_as 46 = .ok (.iconst 0, 1) := dk_3 (dk_at dksX4_as_1 22 rfl rfl)
theorem dX4_as_47 : decode cX4_as 47 = .ok (.iconst 4, 1) := dk_7 (dk_at dksX4_as_1 23 rfl rfl)
theorem dX4_as_48 : decode cX4_as 48 = .ok (.invokestatic 154, 3) := dk_184 0 154 (dk_at dksX4_as_2 0 rfl rfl)
theorem dX4_as_51 : decode cX4_as 51 = .ok (.aload_n 0, 1) := dk_42 (dk_at dksX4_as_2 3 rfl rfl)
theorem dX4_as_52 : decode cX4_as 52 = .ok (.aload_n 1, 1) := dk_43 (dk_at dksX4_as_2 4 rfl rfl)
theorem dX4_as_53 : decode cX4_as 53 = .ok (.getfield 49, 3) := dk_180 0 49 (dk_at dksX4_as_2 5 rfl rfl)
theorem dX4_as_56 : decode cX4_as 56 = .ok (.putfield 49, 3) := dk_181 0 49 (dk_at dksX4_as_2 8 rfl rfl)
theorem dX4_as_59 : decode cX4_as 59 = .ok (.aload_n 0, 1) := dk_42 (dk_at dksX4_as_2 11 rfl rfl)
theorem dX4_as_60 : decode cX4_as 60 = .ok (.areturn, 1) := dk_176 (dk_at dksX4_as_2 12 rfl rfl)
abbrev cX4_losing : ByteArray := prog_16_method_4_code
def yX4_losing : MethodName := ⟨RX4, "losing", "(I)LRainWheel$Watch;"⟩
def dkwX4_losing_0 : List UInt8 := [42, 27, 181, 0, 61, 42, 42, 180, 0, 45, 180, 0, 64, 181, 0, 55, 42, 176]
abbrev dktX4_losing_0 : List UInt8 := dkwX4_losing_0 ++ []
theorem dksX4_losing_0 : cX4_losing.data.toList.drop 0 = dktX4_losing_0 := by decide +kernel
theorem dX4_losing_0 : decode cX4_losing 0 = .ok (.aload_n 0, 1) := dk_42 (dk_at dksX4_losing_0 0 rfl rfl)
theorem dX4_losing_1 : decode cX4_losing 1 = .ok (.iload_n 1, 1) := dk_27 (dk_at dksX4_losing_0 1 rfl rfl)
theorem dX4_losing_2 : decode cX4_losing 2 = .ok (.putfield 61, 3) := dk_181 0 61 (dk_at dksX4_losing_0 2 rfl rfl)
theorem dX4_losing_5 : decode cX4_losing 5 = .ok (.aload_n 0, 1) := dk_42 (dk_at dksX4_losing_0 5 rfl rfl)
theorem dX4_losing_6 : decode cX4_losing 6 = .ok (.aload_n 0, 1) := dk_42 (dk_at dksX4_losing_0 6 rfl rfl)
theorem dX4_losing_7 : decode cX4_losing 7 = .ok (.getfield 45, 3) := dk_180 0 45 (dk_at dksX4_losing_0 7 rfl rfl)
theorem dX4_losing_10 : decode cX4_losing 10 = .ok (.getfield 64, 3) := dk_180 0 64 (dk_at dksX4_losing_0 10 rfl rfl)
theorem dX4_losing_13 : decode cX4_losing 13 = .ok (.putfield 55, 3) := dk_181 0 55 (dk_at dksX4_losing_0 13 rfl rfl)
theorem dX4_losing_16 : decode cX4_losing 16 = .ok (.aload_n 0, 1) := dk_42 (dk_at dksX4_losing_0 16 rfl rfl)
theorem dX4_losing_17 : decode cX4_losing 17 = .ok (.areturn, 1) := dk_176 (dk_at dksX4_losing_0 17 rfl rfl)
theorem q99 : (Jvm.Cond.initialized "RainWheel$Watch") ∈ lw_all := lw_g (lw_at lw_m1 4 rfl) rfl
theorem q153 : (Jvm.Cond.fieldLinkNest "RainWheel$Watch" (73 : Nat) "RainWheel$Plan" "deed" "[I" "RainWheel") ∈ lw_tbl := lw_at lw_m1 58 rfl
theorem q156 : (Jvm.Cond.fieldLinkNest "RainWheel$Watch" (76 : Nat) "RainWheel$Plan" "who" "[I" "RainWheel") ∈ lw_tbl := lw_at lw_m1 61 rfl
theorem q159 : (Jvm.Cond.fieldLinkNest "RainWheel$Watch" (68 : Nat) "RainWheel$Plan" "lines" "I" "RainWheel") ∈ lw_tbl := lw_at lw_m1 64 rfl
theorem q174 : (Jvm.Cond.instantiable "RainWheel$Watch" (15 : Nat)) ∈ lw_all := lw_g (lw_at lw_m1 79 rfl) rfl
theorem q176 : (Jvm.Cond.instanceMethod ({ cls := "RainWheel$Watch", name := "<init>", desc := "(LRainWheel$Law;)V" } : Jvm.MethodName)) ∈ lw_all := lw_g (lw_at lw_m1 81 rfl) rfl
theorem q177 : (Jvm.Cond.code ({ cls := "RainWheel$Watch", name := "<init>", desc := "(LRainWheel$Law;)V" } : Jvm.MethodName) prog_16_method_1_code (2 : Nat) (Option.none : Option Jvm.ClassFile.FieldType)) ∈ lw_all := lw_g (lw_at lw_m1 82 rfl) rfl
theorem q178 : (Jvm.Cond.methodLink "RainWheel$Watch" (3 : Nat) ({ cls := "java/lang/Object", name := "<init>", desc := "()V" } : Jvm.MethodName)) ∈ lw_all := lw_g (lw_at lw_m1 83 rfl) rfl
theorem q179 : (Jvm.Cond.classLink "RainWheel$Watch" (30 : Nat) "RainWheel$Sight") ∈ lw_all := lw_g (lw_at lw_m1 84 rfl) rfl
theorem q181 : (Jvm.Cond.methodLinkNest "RainWheel$Watch" (32 : Nat) ({ cls := "RainWheel$Sight", name := "<init>", desc := "()V" } : Jvm.MethodName) "RainWheel") ∈ lw_tbl := lw_at lw_m1 86 rfl
theorem q187 : (Jvm.Cond.fieldLinkNest "RainWheel$Watch" (124 : Nat) "RainWheel$Sight" "minutes" "I" "RainWheel") ∈ lw_tbl := lw_at lw_m1 92 rfl
theorem q190 : (Jvm.Cond.fieldLinkNest "RainWheel$Watch" (129 : Nat) "RainWheel$Sight" "hands" "I" "RainWheel") ∈ lw_tbl := lw_at lw_m1 95 rfl
theorem q193 : (Jvm.Cond.fieldLinkNest "RainWheel$Watch" (135 : Nat) "RainWheel$Sight" "strong" "I" "RainWheel") ∈ lw_tbl := lw_at lw_m1 98 rfl
theorem q196 : (Jvm.Cond.fieldLinkNest "RainWheel$Watch" (141 : Nat) "RainWheel$Sight" "rain" "I" "RainWheel") ∈ lw_tbl := lw_at lw_m1 101 rfl
theorem q199 : (Jvm.Cond.fieldLinkNest "RainWheel$Watch" (144 : Nat) "RainWheel$Sight" "minute" "I" "RainWheel") ∈ lw_tbl := lw_at lw_m1 104 rfl
theorem q202 : (Jvm.Cond.fieldLinkNest "RainWheel$Watch" (147 : Nat) "RainWheel$Sight" "out" "I" "RainWheel") ∈ lw_tbl := lw_at lw_m1 107 rfl
theorem q217 : (Jvm.Cond.fieldLink "RainWheel$Watch" (9 : Nat) "RainWheel$Watch" "begins" "[I") ∈ lw_all := lw_g (lw_at lw_m1 122 rfl) rfl
theorem q219 : (Jvm.Cond.fieldLink "RainWheel$Watch" (15 : Nat) "RainWheel$Watch" "ends" "[I") ∈ lw_all := lw_g (lw_at lw_m1 124 rfl) rfl
theorem q221 : (Jvm.Cond.fieldLink "RainWheel$Watch" (18 : Nat) "RainWheel$Watch" "endOf" "[I") ∈ lw_all := lw_g (lw_at lw_m1 126 rfl) rfl
theorem q222 : (Jvm.Cond.fieldLink "RainWheel$Watch" (21 : Nat) "RainWheel$Watch" "free" "[I") ∈ lw_all := lw_g (lw_at lw_m1 127 rfl) rfl
theorem q223 : (Jvm.Cond.fieldLink "RainWheel$Watch" (24 : Nat) "RainWheel$Watch" "wet" "[I") ∈ lw_all := lw_g (lw_at lw_m1 128 rfl) rfl
theorem q225 : (Jvm.Cond.fieldLink "RainWheel$Watch" (27 : Nat) "RainWheel$Watch" "busy" "[I") ∈ lw_all := lw_g (lw_at lw_m1 130 rfl) rfl
theorem q227 : (Jvm.Cond.fieldLink "RainWheel$Watch" (33 : Nat) "RainWheel$Watch" "sight" "LRainWheel$Sight;") ∈ lw_all := lw_g (lw_at lw_m1 132 rfl) rfl
theorem q228 : (Jvm.Cond.fieldLink "RainWheel$Watch" (41 : Nat) "RainWheel$Watch" "law" "LRainWheel$Law;") ∈ lw_all := lw_g (lw_at lw_m1 133 rfl) rfl
theorem q229 : (Jvm.Cond.fieldLink "RainWheel$Watch" (45 : Nat) "RainWheel$Watch" "road" "LRainWheel$Road;") ∈ lw_all := lw_g (lw_at lw_m1 134 rfl) rfl
theorem q230 : (Jvm.Cond.fieldLink "RainWheel$Watch" (49 : Nat) "RainWheel$Watch" "span" "I") ∈ lw_all := lw_g (lw_at lw_m1 135 rfl) rfl
theorem q233 : (Jvm.Cond.fieldLink "RainWheel$Watch" (52 : Nat) "RainWheel$Watch" "agains" "I") ∈ lw_all := lw_g (lw_at lw_m1 138 rfl) rfl
theorem q235 : (Jvm.Cond.fieldLink "RainWheel$Watch" (61 : Nat) "RainWheel$Watch" "lots" "I") ∈ lw_all := lw_g (lw_at lw_m1 140 rfl) rfl
theorem q236 : (Jvm.Cond.fieldLink "RainWheel$Watch" (37 : Nat) "RainWheel$Watch" "longer" "I") ∈ lw_all := lw_g (lw_at lw_m1 141 rfl) rfl
theorem q237 : (Jvm.Cond.fieldLink "RainWheel$Watch" (58 : Nat) "RainWheel$Watch" "more" "I") ∈ lw_all := lw_g (lw_at lw_m1 142 rfl) rfl
theorem q238 : (Jvm.Cond.fieldLink "RainWheel$Watch" (55 : Nat) "RainWheel$Watch" "loses" "I") ∈ lw_all := lw_g (lw_at lw_m1 143 rfl) rfl
theorem q239 : (Jvm.Cond.laysFinal "RainWheel$Watch" "RainWheel$Watch" "begins" "[I") ∈ lw_all := lw_g (lw_at lw_m1 144 rfl) rfl
theorem q240 : (Jvm.Cond.soleField "RainWheel$Watch" "begins") ∈ lw_all := lw_g (lw_at lw_m1 145 rfl) rfl
theorem q241 : (Jvm.Cond.laysFinal "RainWheel$Watch" "RainWheel$Watch" "ends" "[I") ∈ lw_all := lw_g (lw_at lw_m1 146 rfl) rfl
theorem q242 : (Jvm.Cond.soleField "RainWheel$Watch" "ends") ∈ lw_all := lw_g (lw_at lw_m1 147 rfl) rfl
theorem q243 : (Jvm.Cond.laysFinal "RainWheel$Watch" "RainWheel$Watch" "endOf" "[I") ∈ lw_all := lw_g (lw_at lw_m1 148 rfl) rfl
theorem q244 : (Jvm.Cond.soleField "RainWheel$Watch" "endOf") ∈ lw_all := lw_g (lw_at lw_m1 149 rfl) rfl
theorem q245 : (Jvm.Cond.laysFinal "RainWheel$Watch" "RainWheel$Watch" "free" "[I") ∈ lw_all := lw_g (lw_at lw_m1 150 rfl) rfl
theorem q246 : (Jvm.Cond.soleField "RainWheel$Watch" "free") ∈ lw_all := lw_g (lw_at lw_m1 151 rfl) rfl
theorem q247 : (Jvm.Cond.laysFinal "RainWheel$Watch" "RainWheel$Watch" "wet" "[I") ∈ lw_all := lw_g (lw_at lw_m1 152 rfl) rfl
theorem q248 : (Jvm.Cond.soleField "RainWheel$Watch" "wet") ∈ lw_all := lw_g (lw_at lw_m1 153 rfl) rfl
theorem q249 : (Jvm.Cond.laysFinal "RainWheel$Watch" "RainWheel$Watch" "busy" "[I") ∈ lw_all := lw_g (lw_at lw_m1 154 rfl) rfl
theorem q250 : (Jvm.Cond.soleField "RainWheel$Watch" "busy") ∈ lw_all := lw_g (lw_at lw_m1 155 rfl) rfl
theorem q251 : (Jvm.Cond.laysFinal "RainWheel$Watch" "RainWheel$Watch" "sight" "LRainWheel$Sight;") ∈ lw_all := lw_g (lw_at lw_m1 156 rfl) rfl
theorem q252 : (Jvm.Cond.soleField "RainWheel$Watch" "sight") ∈ lw_all := lw_g (lw_at lw_m1 157 rfl) rfl
theorem q253 : (Jvm.Cond.laysFinal "RainWheel$Watch" "RainWheel$Watch" "law" "LRainWheel$Law;") ∈ lw_all := lw_g (lw_at lw_m1 158 rfl) rfl
theorem q254 : (Jvm.Cond.soleField "RainWheel$Watch" "law") ∈ lw_all := lw_g (lw_at lw_m1 159 rfl) rfl
theorem q255 : (Jvm.Cond.lays "RainWheel$Watch" "RainWheel$Watch" "road" "LRainWheel$Road;") ∈ lw_all := lw_g (lw_at lw_m1 160 rfl) rfl
theorem q256 : (Jvm.Cond.soleField "RainWheel$Watch" "road") ∈ lw_all := lw_g (lw_at lw_m1 161 rfl) rfl
theorem q257 : (Jvm.Cond.lays "RainWheel$Watch" "RainWheel$Watch" "span" "I") ∈ lw_all := lw_g (lw_at lw_m1 162 rfl) rfl
theorem q258 : (Jvm.Cond.soleField "RainWheel$Watch" "span") ∈ lw_all := lw_g (lw_at lw_m1 163 rfl) rfl
theorem q259 : (Jvm.Cond.lays "RainWheel$Watch" "RainWheel$Watch" "agains" "I") ∈ lw_all := lw_g (lw_at lw_m1 164 rfl) rfl
theorem q260 : (Jvm.Cond.soleField "RainWheel$Watch" "agains") ∈ lw_all := lw_g (lw_at lw_m1 165 rfl) rfl
theorem q261 : (Jvm.Cond.lays "RainWheel$Watch" "RainWheel$Watch" "lots" "I") ∈ lw_all := lw_g (lw_at lw_m1 166 rfl) rfl
theorem q262 : (Jvm.Cond.soleField "RainWheel$Watch" "lots") ∈ lw_all := lw_g (lw_at lw_m1 167 rfl) rfl
theorem q263 : (Jvm.Cond.lays "RainWheel$Watch" "RainWheel$Watch" "longer" "I") ∈ lw_all := lw_g (lw_at lw_m1 168 rfl) rfl
theorem q264 : (Jvm.Cond.soleField "RainWheel$Watch" "longer") ∈ lw_all := lw_g (lw_at lw_m1 169 rfl) rfl
theorem q265 : (Jvm.Cond.lays "RainWheel$Watch" "RainWheel$Watch" "more" "I") ∈ lw_all := lw_g (lw_at lw_m1 170 rfl) rfl
theorem q266 : (Jvm.Cond.soleField "RainWheel$Watch" "more") ∈ lw_all := lw_g (lw_at lw_m1 171 rfl) rfl
theorem q267 : (Jvm.Cond.lays "RainWheel$Watch" "RainWheel$Watch" "loses" "I") ∈ lw_all := lw_g (lw_at lw_m1 172 rfl) rfl
theorem q268 : (Jvm.Cond.soleField "RainWheel$Watch" "loses") ∈ lw_all := lw_g (lw_at lw_m1 173 rfl) rfl
theorem q269 : (Jvm.Cond.superclass "RainWheel$Watch" "java/lang/Object") ∈ lw_all := lw_g (lw_at lw_m1 174 rfl) rfl
theorem q360 : (Jvm.Cond.fieldLinkNest "RainWheel$Watch" (121 : Nat) "RainWheel$Road" "minutes" "[I" "RainWheel") ∈ lw_tbl := lw_at lw_m2 25 rfl
theorem q364 : (Jvm.Cond.fieldLinkNest "RainWheel$Watch" (111 : Nat) "RainWheel$Road" "out" "[I" "RainWheel") ∈ lw_tbl := lw_at lw_m2 29 rfl
theorem q368 : (Jvm.Cond.fieldLinkNest "RainWheel$Watch" (126 : Nat) "RainWheel$Road" "hands" "[I" "RainWheel") ∈ lw_tbl := lw_at lw_m2 33 rfl
theorem q375 : (Jvm.Cond.fieldLinkNest "RainWheel$Watch" (83 : Nat) "RainWheel$Road" "needs" "[I" "RainWheel") ∈ lw_tbl := lw_at lw_m2 40 rfl
theorem q400 : (Jvm.Cond.fieldLinkNest "RainWheel$Watch" (100 : Nat) "RainWheel$Road" "people" "I" "RainWheel") ∈ lw_tbl := lw_at lw_m2 65 rfl
theorem q420 : (Jvm.Cond.fieldLinkNest "RainWheel$Watch" (64 : Nat) "RainWheel$Road" "loses" "I" "RainWheel") ∈ lw_tbl := lw_at lw_m2 85 rfl
theorem q549 : (Jvm.Cond.instanceMethod ({ cls := "RainWheel$Watch", name := "starts", desc := "(LRainWheel$Road;)LRainWheel$Watch;" } : Jvm.MethodName)) ∈ lw_all := lw_g (lw_at lw_m2 214 rfl) rfl
theorem q550 : (Jvm.Cond.selects "RainWheel$Watch" ({ cls := "RainWheel$Watch", name := "starts", desc := "(LRainWheel$Road;)LRainWheel$Watch;" } : Jvm.MethodName) ({ cls := "RainWheel$Watch", name := "starts", desc := "(LRainWheel$Road;)LRainWheel$Watch;" } : Jvm.MethodName)) ∈ lw_all := lw_g (lw_at lw_m2 215 rfl) rfl
theorem q551 : (Jvm.Cond.code ({ cls := "RainWheel$Watch", name := "starts", desc := "(LRainWheel$Road;)LRainWheel$Watch;" } : Jvm.MethodName) prog_16_method_2_code (3 : Nat) (Option.some (Jvm.ClassFile.FieldType.object "RainWheel$Watch"))) ∈ lw_all := lw_g (lw_at lw_m2 216 rfl) rfl
theorem q553 : (Jvm.Cond.instanceMethod ({ cls := "RainWheel$Watch", name := "goes", desc := "(LRainWheel$Plan;)LRainWheel$Watch;" } : Jvm.MethodName)) ∈ lw_all := lw_g (lw_at lw_m2 218 rfl) rfl
theorem q554 : (Jvm.Cond.selects "RainWheel$Watch" ({ cls := "RainWheel$Watch", name := "goes", desc := "(LRainWheel$Plan;)LRainWheel$Watch;" } : Jvm.MethodName) ({ cls := "RainWheel$Watch", name := "goes", desc := "(LRainWheel$Plan;)LRainWheel$Watch;" } : Jvm.MethodName)) ∈ lw_all := lw_g (lw_at lw_m2 219 rfl) rfl
theorem q555 : (Jvm.Cond.code ({ cls := "RainWheel$Watch", name := "goes", desc := "(LRainWheel$Plan;)LRainWheel$Watch;" } : Jvm.MethodName) prog_16_method_6_code (3 : Nat) (Option.some (Jvm.ClassFile.FieldType.object "RainWheel$Watch"))) ∈ lw_all := lw_g (lw_at lw_m2 220 rfl) rfl
theorem q556 : (Jvm.Cond.methodLink "RainWheel$Watch" (79 : Nat) ({ cls := "RainWheel$Watch", name := "comes", desc := "(III)Z" } : Jvm.MethodName)) ∈ lw_all := lw_g (lw_at lw_m2 221 rfl) rfl
theorem q557 : (Jvm.Cond.instanceMethod ({ cls := "RainWheel$Watch", name := "comes", desc := "(III)Z" } : Jvm.MethodName)) ∈ lw_all := lw_g (lw_at lw_m2 222 rfl) rfl
theorem q558 : (Jvm.Cond.selects "RainWheel$Watch" ({ cls := "RainWheel$Watch", name := "comes", desc := "(III)Z" } : Jvm.MethodName) ({ cls := "RainWheel$Watch", name := "comes", desc := "(III)Z" } : Jvm.MethodName)) ∈ lw_all := lw_g (lw_at lw_m2 223 rfl) rfl
theorem q559 : (Jvm.Cond.code ({ cls := "RainWheel$Watch", name := "comes", desc := "(III)Z" } : Jvm.MethodName) prog_16_method_8_code (8 : Nat) (Option.some Jvm.ClassFile.FieldType.boolean)) ∈ lw_all := lw_g (lw_at lw_m2 224 rfl) rfl
theorem q560 : (Jvm.Cond.methodLink "RainWheel$Watch" (86 : Nat) ({ cls := "RainWheel$Road", name := "isDone", desc := "(II)Z" } : Jvm.MethodName)) ∈ lw_all := lw_g (lw_at lw_m2 225 rfl) rfl
theorem q574 : (Jvm.Cond.methodLink "RainWheel$Watch" (90 : Nat) ({ cls := "RainWheel$Watch", name := "isReady", desc := "(I)Z" } : Jvm.MethodName)) ∈ lw_all := lw_g (lw_at lw_m2 239 rfl) rfl
theorem q575 : (Jvm.Cond.privateMethod ({ cls := "RainWheel$Watch", name := "isReady", desc := "(I)Z" } : Jvm.MethodName)) ∈ lw_tbl := lw_at lw_m3 0 rfl
theorem q576 : (Jvm.Cond.instanceMethod ({ cls := "RainWheel$Watch", name := "isReady", desc := "(I)Z" } : Jvm.MethodName)) ∈ lw_all := lw_g (lw_at lw_m3 1 rfl) rfl
theorem q577 : (Jvm.Cond.code ({ cls := "RainWheel$Watch", name := "isReady", desc := "(I)Z" } : Jvm.MethodName) prog_16_method_7_code (3 : Nat) (Option.some Jvm.ClassFile.FieldType.boolean)) ∈ lw_all := lw_g (lw_at lw_m3 2 rfl) rfl
theorem q578 : (Jvm.Cond.methodLink "RainWheel$Watch" (94 : Nat) ({ cls := "java/lang/Math", name := "max", desc := "(II)I" } : Jvm.MethodName)) ∈ lw_all := lw_g (lw_at lw_m3 3 rfl) rfl
theorem q581 : (Jvm.Cond.methodLink "RainWheel$Watch" (103 : Nat) ({ cls := "RainWheel$Watch", name := "lasts", desc := "(III)I" } : Jvm.MethodName)) ∈ lw_all := lw_g (lw_at lw_m3 6 rfl) rfl
theorem q582 : (Jvm.Cond.privateMethod ({ cls := "RainWheel$Watch", name := "lasts", desc := "(III)I" } : Jvm.MethodName)) ∈ lw_tbl := lw_at lw_m3 7 rfl
theorem q583 : (Jvm.Cond.instanceMethod ({ cls := "RainWheel$Watch", name := "lasts", desc := "(III)I" } : Jvm.MethodName)) ∈ lw_all := lw_g (lw_at lw_m3 8 rfl) rfl
theorem q584 : (Jvm.Cond.code ({ cls := "RainWheel$Watch", name := "lasts", desc := "(III)I" } : Jvm.MethodName) prog_16_method_10_code (4 : Nat) (Option.some Jvm.ClassFile.FieldType.int)) ∈ lw_all := lw_g (lw_at lw_m3 9 rfl) rfl
theorem q585 : (Jvm.Cond.methodLink "RainWheel$Watch" (131 : Nat) ({ cls := "RainWheel$Road", name := "strongOf", desc := "(I)I" } : Jvm.MethodName)) ∈ lw_all := lw_g (lw_at lw_m3 10 rfl) rfl
theorem q586 : (Jvm.Cond.methodLink "RainWheel$Watch" (138 : Nat) ({ cls := "RainWheel$Road", name := "isRain", desc := "(I)Z" } : Jvm.MethodName)) ∈ lw_all := lw_g (lw_at lw_m3 11 rfl) rfl
theorem q590 : (Jvm.Cond.methodLink "RainWheel$Watch" (149 : Nat) ({ cls := "RainWheel$Law", name := "lasts", desc := "(LRainWheel$Sight;)I" } : Jvm.MethodName)) ∈ lw_all := lw_g (lw_at lw_m3 15 rfl) rfl
theorem q628 : (Jvm.Cond.methodLink "RainWheel$Watch" (107 : Nat) ({ cls := "RainWheel$Watch", name := "draw", desc := "()I" } : Jvm.MethodName)) ∈ lw_all := lw_g (lw_at lw_m3 53 rfl) rfl
theorem q629 : (Jvm.Cond.privateMethod ({ cls := "RainWheel$Watch", name := "draw", desc := "()I" } : Jvm.MethodName)) ∈ lw_tbl := lw_at lw_m3 54 rfl
theorem q630 : (Jvm.Cond.instanceMethod ({ cls := "RainWheel$Watch", name := "draw", desc := "()I" } : Jvm.MethodName)) ∈ lw_all := lw_g (lw_at lw_m3 55 rfl) rfl
theorem q631 : (Jvm.Cond.code ({ cls := "RainWheel$Watch", name := "draw", desc := "()I" } : Jvm.MethodName) prog_16_method_5_code (1 : Nat) (Option.some Jvm.ClassFile.FieldType.int)) ∈ lw_all := lw_g (lw_at lw_m3 56 rfl) rfl
theorem q632 : (Jvm.Cond.constant "RainWheel$Watch" (67 : Nat) (1103515245 : Int32)) ∈ lw_all := lw_g (lw_at lw_m3 57 rfl) rfl
theorem q633 : (Jvm.Cond.methodLink "RainWheel$Watch" (114 : Nat) ({ cls := "RainWheel$Road", name := "rainIn", desc := "(II)I" } : Jvm.MethodName)) ∈ lw_all := lw_g (lw_at lw_m3 58 rfl) rfl
theorem q638 : (Jvm.Cond.methodLink "RainWheel$Watch" (117 : Nat) ({ cls := "RainWheel$Watch", name := "works", desc := "(IIII)V" } : Jvm.MethodName)) ∈ lw_all := lw_g (lw_at lw_m3 63 rfl) rfl
theorem q639 : (Jvm.Cond.privateMethod ({ cls := "RainWheel$Watch", name := "works", desc := "(IIII)V" } : Jvm.MethodName)) ∈ lw_tbl := lw_at lw_m3 64 rfl
theorem q640 : (Jvm.Cond.instanceMethod ({ cls := "RainWheel$Watch", name := "works", desc := "(IIII)V" } : Jvm.MethodName)) ∈ lw_all := lw_g (lw_at lw_m3 65 rfl) rfl
theorem q641 : (Jvm.Cond.code ({ cls := "RainWheel$Watch", name := "works", desc := "(IIII)V" } : Jvm.MethodName) prog_16_method_9_code (5 : Nat) (Option.none : Option Jvm.ClassFile.FieldType)) ∈ lw_all := lw_g (lw_at lw_m3 66 rfl) rfl
theorem q659 : (Jvm.Cond.instanceMethod ({ cls := "RainWheel$Watch", name := "longer", desc := "(II)LRainWheel$Watch;" } : Jvm.MethodName)) ∈ lw_all := lw_g (lw_at lw_m3 84 rfl) rfl
theorem q660 : (Jvm.Cond.selects "RainWheel$Watch" ({ cls := "RainWheel$Watch", name := "longer", desc := "(II)LRainWheel$Watch;" } : Jvm.MethodName) ({ cls := "RainWheel$Watch", name := "longer", desc := "(II)LRainWheel$Watch;" } : Jvm.MethodName)) ∈ lw_all := lw_g (lw_at lw_m3 85 rfl) rfl
theorem q661 : (Jvm.Cond.code ({ cls := "RainWheel$Watch", name := "longer", desc := "(II)LRainWheel$Watch;" } : Jvm.MethodName) prog_16_method_3_code (3 : Nat) (Option.some (Jvm.ClassFile.FieldType.object "RainWheel$Watch"))) ∈ lw_all := lw_g (lw_at lw_m3 86 rfl) rfl
theorem q1292 : (Jvm.Cond.instanceMethod ({ cls := "RainWheel$Watch", name := "allWet", desc := "()I" } : Jvm.MethodName)) ∈ lw_all := lw_g (lw_at lw_m5 237 rfl) rfl
theorem q1293 : (Jvm.Cond.selects "RainWheel$Watch" ({ cls := "RainWheel$Watch", name := "allWet", desc := "()I" } : Jvm.MethodName) ({ cls := "RainWheel$Watch", name := "allWet", desc := "()I" } : Jvm.MethodName)) ∈ lw_all := lw_g (lw_at lw_m5 238 rfl) rfl
theorem q1294 : (Jvm.Cond.code ({ cls := "RainWheel$Watch", name := "allWet", desc := "()I" } : Jvm.MethodName) prog_16_method_11_code (3 : Nat) (Option.some Jvm.ClassFile.FieldType.int)) ∈ lw_all := lw_g (lw_at lw_m5 239 rfl) rfl
theorem q1297 : (Jvm.Cond.instanceMethod ({ cls := "RainWheel$Watch", name := "as", desc := "(LRainWheel$Watch;)LRainWheel$Watch;" } : Jvm.MethodName)) ∈ lw_all := lw_g (lw_at lw_m6 2 rfl) rfl
theorem q1298 : (Jvm.Cond.selects "RainWheel$Watch" ({ cls := "RainWheel$Watch", name := "as", desc := "(LRainWheel$Watch;)LRainWheel$Watch;" } : Jvm.MethodName) ({ cls := "RainWheel$Watch", name := "as", desc := "(LRainWheel$Watch;)LRainWheel$Watch;" } : Jvm.MethodName)) ∈ lw_all := lw_g (lw_at lw_m6 3 rfl) rfl
theorem q1299 : (Jvm.Cond.code ({ cls := "RainWheel$Watch", name := "as", desc := "(LRainWheel$Watch;)LRainWheel$Watch;" } : Jvm.MethodName) prog_16_method_12_code (2 : Nat) (Option.some (Jvm.ClassFile.FieldType.object "RainWheel$Watch"))) ∈ lw_all := lw_g (lw_at lw_m6 4 rfl) rfl
theorem q1300 : (Jvm.Cond.methodLink "RainWheel$Watch" (154 : Nat) ({ cls := "java/lang/System", name := "arraycopy", desc := "(Ljava/lang/Object;ILjava/lang/Object;II)V" } : Jvm.MethodName)) ∈ lw_all := lw_g (lw_at lw_m6 5 rfl) rfl
theorem q1479 : (Jvm.Cond.instanceMethod ({ cls := "RainWheel$Watch", name := "losing", desc := "(I)LRainWheel$Watch;" } : Jvm.MethodName)) ∈ lw_all := lw_g (lw_at lw_m6 184 rfl) rfl
theorem q1480 : (Jvm.Cond.selects "RainWheel$Watch" ({ cls := "RainWheel$Watch", name := "losing", desc := "(I)LRainWheel$Watch;" } : Jvm.MethodName) ({ cls := "RainWheel$Watch", name := "losing", desc := "(I)LRainWheel$Watch;" } : Jvm.MethodName)) ∈ lw_all := lw_g (lw_at lw_m6 185 rfl) rfl
theorem q1481 : (Jvm.Cond.code ({ cls := "RainWheel$Watch", name := "losing", desc := "(I)LRainWheel$Watch;" } : Jvm.MethodName) prog_16_method_4_code (2 : Nat) (Option.some (Jvm.ClassFile.FieldType.object "RainWheel$Watch"))) ∈ lw_all := lw_g (lw_at lw_m6 186 rfl) rfl
theorem q2254 : (Jvm.Cond.castable "RainWheel$Watch" "java/lang/Object") ∈ lw_tbl := lw_at lw_m9 239 rfl

abbrev cX5_init : ByteArray := prog_12_method_1_code
def yX5_init : MethodName := ⟨RX5, "<init>", "()V"⟩
theorem dX5_init_0 : decode cX5_init 0 = .ok (.aload_n 0, 1) := by decide +kernel
theorem dX5_init_1 : decode cX5_init 1 = .ok (.invokespecial 1, 3) := by decide +kernel
theorem dX5_init_4 : decode cX5_init 4 = .ok (.return_, 1) := by decide +kernel
abbrev cX5_known : ByteArray := prog_12_method_2_code
def yX5_known : MethodName := ⟨RX5, "known", "(I)I"⟩
def dkwX5_known_3 : List UInt8 := [172, 42, 180, 0, 25, 172]
abbrev dktX5_known_3 : List UInt8 := dkwX5_known_3 ++ []
def dkwX5_known_2 : List UInt8 := [42, 180, 0, 7, 172, 42, 180, 0, 13, 172, 42, 180, 0, 16, 172, 42, 180, 0, 19, 172, 42, 180, 0, 22]
abbrev dktX5_known_2 : List UInt8 := dkwX5_known_2 ++ dktX5_known_3
def dkwX5_known_1 : List UInt8 := [170, 0, 0, 0, 0, 0, 60, 0, 0, 0, 0, 0, 0, 0, 4, 0, 0, 0, 35, 0, 0, 0, 40, 0, 0, 0, 45, 0, 0, 0, 50, 0, 0, 0, 55]
abbrev dktX5_known_1 : List UInt8 := dkwX5_known_1 ++ dktX5_known_2
def dkwX5_known_0 : List UInt8 := [27]
abbrev dktX5_known_0 : List UInt8 := dkwX5_known_0 ++ dktX5_known_1
theorem dksX5_known_0 : cX5_known.data.toList.drop 0 = dktX5_known_0 := by decide +kernel
theorem dksX5_known_1 : cX5_known.data.toList.drop 1 = dktX5_known_1 := dk_seg dksX5_known_0 1 rfl rfl
theorem dksX5_known_2 : cX5_known.data.toList.drop 36 = dktX5_known_2 := dk_seg dksX5_known_1 35 rfl rfl
theorem dksX5_known_3 : cX5_known.data.toList.drop 60 = dktX5_known_3 := dk_seg dksX5_known_2 24 rfl rfl
theorem dX5_known_0 : decode cX5_known 0 = .ok (.iload_n 1, 1) := dk_27 (dk_at dksX5_known_0 0 rfl rfl)
theorem dX5_known_1 : decode cX5_known 1 = .ok (.tableswitch 60 0 4 #[35, 40, 45, 50, 55], 35) := by decide +kernel
theorem dX5_known_36 : decode cX5_known 36 = .ok (.aload_n 0, 1) := dk_42 (dk_at dksX5_known_2 0 rfl rfl)
theorem dX5_known_37 : decode cX5_known 37 = .ok (.getfield 7, 3) := dk_180 0 7 (dk_at dksX5_known_2 1 rfl rfl)
theorem dX5_known_40 : decode cX5_known 40 = .ok (.ireturn, 1) := dk_172 (dk_at dksX5_known_2 4 rfl rfl)
theorem dX5_known_41 : decode cX5_known 41 = .ok (.aload_n 0, 1) := dk_42 (dk_at dksX5_known_2 5 rfl rfl)
theorem dX5_known_42 : decode cX5_known 42 = .ok (.getfield 13, 3) := dk_180 0 13 (dk_at dksX5_known_2 6 rfl rfl)
theorem dX5_known_45 : decode cX5_known 45 = .ok (.ireturn, 1) := dk_172 (dk_at dksX5_known_2 9 rfl rfl)
theorem dX5_known_46 : decode cX5_known 46 = .ok (.aload_n 0, 1) := dk_42 (dk_at dksX5_known_2 10 rfl rfl)
theorem dX5_known_47 : decode cX5_known 47 = .ok (.getfield 16, 3) := dk_180 0 16 (dk_at dksX5_known_2 11 rfl rfl)
theorem dX5_known_50 : decode cX5_known 50 = .ok (.ireturn, 1) := dk_172 (dk_at dksX5_known_2 14 rfl rfl)
theorem dX5_known_51 : decode cX5_known 51 = .ok (.aload_n 0, 1) := dk_42 (dk_at dksX5_known_2 15 rfl rfl)
theorem dX5_known_52 : decode cX5_known 52 = .ok (.getfield 19, 3) := dk_180 0 19 (dk_at dksX5_known_2 16 rfl rfl)
theorem dX5_known_55 : decode cX5_known 55 = .ok (.ireturn, 1) := dk_172 (dk_at dksX5_known_2 19 rfl rfl)
theorem dX5_known_56 : decode cX5_known 56 = .ok (.aload_n 0, 1) := dk_42 (dk_at dksX5_known_2 20 rfl rfl)
theorem dX5_known_57 : decode cX5_known 57 = .ok (.getfield 22, 3) := dk_180 0 22 (dk_at dksX5_known_2 21 rfl rfl)
theorem dX5_known_60 : decode cX5_known 60 = .ok (.ireturn, 1) := dk_172 (dk_at dksX5_known_3 0 rfl rfl)
theorem dX5_known_61 : decode cX5_known 61 = .ok (.aload_n 0, 1) := dk_42 (dk_at dksX5_known_3 1 rfl rfl)
theorem dX5_known_62 : decode cX5_known 62 = .ok (.getfield 25, 3) := dk_180 0 25 (dk_at dksX5_known_3 2 rfl rfl)
theorem dX5_known_65 : decode cX5_known 65 = .ok (.ireturn, 1) := dk_172 (dk_at dksX5_known_3 5 rfl rfl)
theorem q100 : (Jvm.Cond.initialized "RainWheel$Sight") ∈ lw_all := lw_g (lw_at lw_m1 5 rfl) rfl
theorem q180 : (Jvm.Cond.instantiable "RainWheel$Sight" (6 : Nat)) ∈ lw_all := lw_g (lw_at lw_m1 85 rfl) rfl
theorem q182 : (Jvm.Cond.instanceMethod ({ cls := "RainWheel$Sight", name := "<init>", desc := "()V" } : Jvm.MethodName)) ∈ lw_all := lw_g (lw_at lw_m1 87 rfl) rfl
theorem q183 : (Jvm.Cond.code ({ cls := "RainWheel$Sight", name := "<init>", desc := "()V" } : Jvm.MethodName) prog_12_method_1_code (1 : Nat) (Option.none : Option Jvm.ClassFile.FieldType)) ∈ lw_all := lw_g (lw_at lw_m1 88 rfl) rfl
theorem q184 : (Jvm.Cond.methodLink "RainWheel$Sight" (1 : Nat) ({ cls := "java/lang/Object", name := "<init>", desc := "()V" } : Jvm.MethodName)) ∈ lw_all := lw_g (lw_at lw_m1 89 rfl) rfl
theorem q186 : (Jvm.Cond.fieldLink "RainWheel$Sight" (7 : Nat) "RainWheel$Sight" "minutes" "I") ∈ lw_all := lw_g (lw_at lw_m1 91 rfl) rfl
theorem q189 : (Jvm.Cond.fieldLink "RainWheel$Sight" (13 : Nat) "RainWheel$Sight" "hands" "I") ∈ lw_all := lw_g (lw_at lw_m1 94 rfl) rfl
theorem q192 : (Jvm.Cond.fieldLink "RainWheel$Sight" (16 : Nat) "RainWheel$Sight" "strong" "I") ∈ lw_all := lw_g (lw_at lw_m1 97 rfl) rfl
theorem q195 : (Jvm.Cond.fieldLink "RainWheel$Sight" (19 : Nat) "RainWheel$Sight" "rain" "I") ∈ lw_all := lw_g (lw_at lw_m1 100 rfl) rfl
theorem q198 : (Jvm.Cond.fieldLink "RainWheel$Sight" (22 : Nat) "RainWheel$Sight" "minute" "I") ∈ lw_all := lw_g (lw_at lw_m1 103 rfl) rfl
theorem q201 : (Jvm.Cond.fieldLink "RainWheel$Sight" (25 : Nat) "RainWheel$Sight" "out" "I") ∈ lw_all := lw_g (lw_at lw_m1 106 rfl) rfl
theorem q204 : (Jvm.Cond.lays "RainWheel$Sight" "RainWheel$Sight" "minutes" "I") ∈ lw_all := lw_g (lw_at lw_m1 109 rfl) rfl
theorem q205 : (Jvm.Cond.soleField "RainWheel$Sight" "minutes") ∈ lw_all := lw_g (lw_at lw_m1 110 rfl) rfl
theorem q206 : (Jvm.Cond.lays "RainWheel$Sight" "RainWheel$Sight" "hands" "I") ∈ lw_all := lw_g (lw_at lw_m1 111 rfl) rfl
theorem q207 : (Jvm.Cond.soleField "RainWheel$Sight" "hands") ∈ lw_all := lw_g (lw_at lw_m1 112 rfl) rfl
theorem q208 : (Jvm.Cond.lays "RainWheel$Sight" "RainWheel$Sight" "strong" "I") ∈ lw_all := lw_g (lw_at lw_m1 113 rfl) rfl
theorem q209 : (Jvm.Cond.soleField "RainWheel$Sight" "strong") ∈ lw_all := lw_g (lw_at lw_m1 114 rfl) rfl
theorem q210 : (Jvm.Cond.lays "RainWheel$Sight" "RainWheel$Sight" "rain" "I") ∈ lw_all := lw_g (lw_at lw_m1 115 rfl) rfl
theorem q211 : (Jvm.Cond.soleField "RainWheel$Sight" "rain") ∈ lw_all := lw_g (lw_at lw_m1 116 rfl) rfl
theorem q212 : (Jvm.Cond.lays "RainWheel$Sight" "RainWheel$Sight" "minute" "I") ∈ lw_all := lw_g (lw_at lw_m1 117 rfl) rfl
theorem q213 : (Jvm.Cond.soleField "RainWheel$Sight" "minute") ∈ lw_all := lw_g (lw_at lw_m1 118 rfl) rfl
theorem q214 : (Jvm.Cond.lays "RainWheel$Sight" "RainWheel$Sight" "out" "I") ∈ lw_all := lw_g (lw_at lw_m1 119 rfl) rfl
theorem q215 : (Jvm.Cond.soleField "RainWheel$Sight" "out") ∈ lw_all := lw_g (lw_at lw_m1 120 rfl) rfl
theorem q216 : (Jvm.Cond.superclass "RainWheel$Sight" "java/lang/Object") ∈ lw_all := lw_g (lw_at lw_m1 121 rfl) rfl
theorem q611 : (Jvm.Cond.instanceMethod ({ cls := "RainWheel$Sight", name := "known", desc := "(I)I" } : Jvm.MethodName)) ∈ lw_all := lw_g (lw_at lw_m3 36 rfl) rfl
theorem q612 : (Jvm.Cond.selects "RainWheel$Sight" ({ cls := "RainWheel$Sight", name := "known", desc := "(I)I" } : Jvm.MethodName) ({ cls := "RainWheel$Sight", name := "known", desc := "(I)I" } : Jvm.MethodName)) ∈ lw_all := lw_g (lw_at lw_m3 37 rfl) rfl
theorem q613 : (Jvm.Cond.code ({ cls := "RainWheel$Sight", name := "known", desc := "(I)I" } : Jvm.MethodName) prog_12_method_2_code (2 : Nat) (Option.some Jvm.ClassFile.FieldType.int)) ∈ lw_all := lw_g (lw_at lw_m3 38 rfl) rfl
theorem q2255 : (Jvm.Cond.castable "RainWheel$Sight" "java/lang/Object") ∈ lw_tbl := lw_at lw_m10 0 rfl

abbrev cX6_init : ByteArray := prog_13_method_1_code
def yX6_init : MethodName := ⟨RX6, "<init>", "(LRainWheel$Law;)V"⟩
def dkwX6_init_2 : List UInt8 := [42, 180, 0, 11, 28, 187, 0, 9, 89, 43, 183, 0, 30, 83, 132, 2, 1, 167, 255, 234, 177]
abbrev dktX6_init_2 : List UInt8 := dkwX6_init_2 ++ []
def dkwX6_init_1 : List UInt8 := [181, 0, 21, 42, 8, 188, 10, 181, 0, 24, 42, 8, 188, 10, 181, 0, 27, 3, 61, 28, 8, 163, 0, 23]
abbrev dktX6_init_1 : List UInt8 := dkwX6_init_1 ++ dktX6_init_2
def dkwX6_init_0 : List UInt8 := [42, 183, 0, 3, 42, 16, 6, 189, 0, 9, 181, 0, 11, 42, 8, 188, 10, 181, 0, 17, 42, 8, 188, 10]
abbrev dktX6_init_0 : List UInt8 := dkwX6_init_0 ++ dktX6_init_1
theorem dksX6_init_0 : cX6_init.data.toList.drop 0 = dktX6_init_0 := by decide +kernel
theorem dksX6_init_1 : cX6_init.data.toList.drop 24 = dktX6_init_1 := dk_seg dksX6_init_0 24 rfl rfl
theorem dksX6_init_2 : cX6_init.data.toList.drop 48 = dktX6_init_2 := dk_seg dksX6_init_1 24 rfl rfl
theorem dX6_init_0 : decode cX6_init 0 = .ok (.aload_n 0, 1) := dk_42 (dk_at dksX6_init_0 0 rfl rfl)
theorem dX6_init_1 : decode cX6_init 1 = .ok (.invokespecial 3, 3) := dk_183 0 3 (dk_at dksX6_init_0 1 rfl rfl)
theorem dX6_init_4 : decode cX6_init 4 = .ok (.aload_n 0, 1) := dk_42 (dk_at dksX6_init_0 4 rfl rfl)
theorem dX6_init_5 : decode cX6_init 5 = .ok (.bipush 6, 2) := dk_16 6 (dk_at dksX6_init_0 5 rfl rfl)
theorem dX6_init_7 : decode cX6_init 7 = .ok (.anewarray 9, 3) := dk_189 0 9 (dk_at dksX6_init_0 7 rfl rfl)
theorem dX6_init_10 : decode cX6_init 10 = .ok (.putfield 11, 3) := dk_181 0 11 (dk_at dksX6_init_0 10 rfl rfl)
theorem dX6_init_13 : decode cX6_init 13 = .ok (.aload_n 0, 1) := dk_42 (dk_at dksX6_init_0 13 rfl rfl)
theorem dX6_init_14 : decode cX6_init 14 = .ok (.iconst 5, 1) := dk_8 (dk_at dksX6_init_0 14 rfl rfl)
theorem dX6_init_15 : decode cX6_init 15 = .ok (.newarray .int, 2) := dk_188_10 (dk_at dksX6_init_0 15 rfl rfl)
theorem dX6_init_17 : decode cX6_init 17 = .ok (.putfield 17, 3) := dk_181 0 17 (dk_at dksX6_init_0 17 rfl rfl)
theorem dX6_init_20 : decode cX6_init 20 = .ok (.aload_n 0, 1) := dk_42 (dk_at dksX6_init_0 20 rfl rfl)
theorem dX6_init_21 : decode cX6_init 21 = .ok (.iconst 5, 1) := dk_8 (dk_at dksX6_init_0 21 rfl rfl)
theorem dX6_init_22 : decode cX6_init 22 = .ok (.newarray .int, 2) := dk_188_10 (dk_at dksX6_init_0 22 rfl rfl)
theorem dX6_init_24 : decode cX6_init 24 = .ok (.putfield 21, 3) := dk_181 0 21 (dk_at dksX6_init_1 0 rfl rfl)
theorem dX6_init_27 : decode cX6_init 27 = .ok (.aload_n 0, 1) := dk_42 (dk_at dksX6_init_1 3 rfl rfl)
theorem dX6_init_28 : decode cX6_init 28 = .ok (.iconst 5, 1) := dk_8 (dk_at dksX6_init_1 4 rfl rfl)
theorem dX6_init_29 : decode cX6_init 29 = .ok (.newarray .int, 2) := dk_188_10 (dk_at dksX6_init_1 5 rfl rfl)
theorem dX6_init_31 : decode cX6_init 31 = .ok (.putfield 24, 3) := dk_181 0 24 (dk_at dksX6_init_1 7 rfl rfl)
theorem dX6_init_34 : decode cX6_init 34 = .ok (.aload_n 0, 1) := dk_42 (dk_at dksX6_init_1 10 rfl rfl)
theorem dX6_init_35 : decode cX6_init 35 = .ok (.iconst 5, 1) := dk_8 (dk_at dksX6_init_1 11 rfl rfl)
theorem dX6_init_36 : decode cX6_init 36 = .ok (.newarray .int, 2) := dk_188_10 (dk_at dksX6_init_1 12 rfl rfl)
theorem dX6_init_38 : decode cX6_init 38 = .ok (.putfield 27, 3) := dk_181 0 27 (dk_at dksX6_init_1 14 rfl rfl)
theorem dX6_init_41 : decode cX6_init 41 = .ok (.iconst 0, 1) := dk_3 (dk_at dksX6_init_1 17 rfl rfl)
theorem dX6_init_42 : decode cX6_init 42 = .ok (.istore_n 2, 1) := dk_61 (dk_at dksX6_init_1 18 rfl rfl)
theorem dX6_init_43 : decode cX6_init 43 = .ok (.iload_n 2, 1) := dk_28 (dk_at dksX6_init_1 19 rfl rfl)
theorem dX6_init_44 : decode cX6_init 44 = .ok (.iconst 5, 1) := dk_8 (dk_at dksX6_init_1 20 rfl rfl)
theorem dX6_init_45 : decode cX6_init 45 = .ok (.if_icmp .gt 23, 3) := dk_163 0 23 (dk_at dksX6_init_1 21 rfl rfl)
theorem dX6_init_48 : decode cX6_init 48 = .ok (.aload_n 0, 1) := dk_42 (dk_at dksX6_init_2 0 rfl rfl)
theorem dX6_init_49 : decode cX6_init 49 = .ok (.getfield 11, 3) := dk_180 0 11 (dk_at dksX6_init_2 1 rfl rfl)
theorem dX6_init_52 : decode cX6_init 52 = .ok (.iload_n 2, 1) := dk_28 (dk_at dksX6_init_2 4 rfl rfl)
theorem dX6_init_53 : decode cX6_init 53 = .ok (.new 9, 3) := dk_187 0 9 (dk_at dksX6_init_2 5 rfl rfl)
theorem dX6_init_56 : decode cX6_init 56 = .ok (.dup, 1) := dk_89 (dk_at dksX6_init_2 8 rfl rfl)
theorem dX6_init_57 : decode cX6_init 57 = .ok (.aload_n 1, 1) := dk_43 (dk_at dksX6_init_2 9 rfl rfl)
theorem dX6_init_58 : decode cX6_init 58 = .ok (.invokespecial 30, 3) := dk_183 0 30 (dk_at dksX6_init_2 10 rfl rfl)
theorem dX6_init_61 : decode cX6_init 61 = .ok (.aastore, 1) := dk_83 (dk_at dksX6_init_2 13 rfl rfl)
theorem dX6_init_62 : decode cX6_init 62 = .ok (.iinc 2 1, 3) := dk_132 2 1 (dk_at dksX6_init_2 14 rfl rfl)
theorem dX6_init_65 : decode cX6_init 65 = .ok (.goto (-22), 3) := dk_167 255 234 (dk_at dksX6_init_2 17 rfl rfl)
theorem dX6_init_68 : decode cX6_init 68 = .ok (.return_, 1) := dk_177 (dk_at dksX6_init_2 20 rfl rfl)
abbrev cX6_finds : ByteArray := prog_13_method_2_code
def yX6_finds : MethodName := ⟨RX6, "finds", "(LRainWheel$Road;)V"⟩
def dkwX6_finds_0 : List UInt8 := [42, 2, 181, 0, 33, 42, 180, 0, 11, 3, 50, 43, 182, 0, 37, 87, 42, 43, 3, 3, 182, 0, 41, 177]
abbrev dktX6_finds_0 : List UInt8 := dkwX6_finds_0 ++ []
theorem dksX6_finds_0 : cX6_finds.data.toList.drop 0 = dktX6_finds_0 := by decide +kernel
theorem dX6_finds_0 : decode cX6_finds 0 = .ok (.aload_n 0, 1) := dk_42 (dk_at dksX6_finds_0 0 rfl rfl)
theorem dX6_finds_1 : decode cX6_finds 1 = .ok (.iconst (-1), 1) := dk_2 (dk_at dksX6_finds_0 1 rfl rfl)
theorem dX6_finds_2 : decode cX6_finds 2 = .ok (.putfield 33, 3) := dk_181 0 33 (dk_at dksX6_finds_0 2 rfl rfl)
theorem dX6_finds_5 : decode cX6_finds 5 = .ok (.aload_n 0, 1) := dk_42 (dk_at dksX6_finds_0 5 rfl rfl)
theorem dX6_finds_6 : decode cX6_finds 6 = .ok (.getfield 11, 3) := dk_180 0 11 (dk_at dksX6_finds_0 6 rfl rfl)
theorem dX6_finds_9 : decode cX6_finds 9 = .ok (.iconst 0, 1) := dk_3 (dk_at dksX6_finds_0 9 rfl rfl)
theorem dX6_finds_10 : decode cX6_finds 10 = .ok (.aaload, 1) := dk_50 (dk_at dksX6_finds_0 10 rfl rfl)
theorem dX6_finds_11 : decode cX6_finds 11 = .ok (.aload_n 1, 1) := dk_43 (dk_at dksX6_finds_0 11 rfl rfl)
theorem dX6_finds_12 : decode cX6_finds 12 = .ok (.invokevirtual 37, 3) := dk_182 0 37 (dk_at dksX6_finds_0 12 rfl rfl)
theorem dX6_finds_15 : decode cX6_finds 15 = .ok (.pop, 1) := dk_87 (dk_at dksX6_finds_0 15 rfl rfl)
theorem dX6_finds_16 : decode cX6_finds 16 = .ok (.aload_n 0, 1) := dk_42 (dk_at dksX6_finds_0 16 rfl rfl)
theorem dX6_finds_17 : decode cX6_finds 17 = .ok (.aload_n 1, 1) := dk_43 (dk_at dksX6_finds_0 17 rfl rfl)
theorem dX6_finds_18 : decode cX6_finds 18 = .ok (.iconst 0, 1) := dk_3 (dk_at dksX6_finds_0 18 rfl rfl)
theorem dX6_finds_19 : decode cX6_finds 19 = .ok (.iconst 0, 1) := dk_3 (dk_at dksX6_finds_0 19 rfl rfl)
theorem dX6_finds_20 : decode cX6_finds 20 = .ok (.invokevirtual 41, 3) := dk_182 0 41 (dk_at dksX6_finds_0 20 rfl rfl)
theorem dX6_finds_23 : decode cX6_finds 23 = .ok (.return_, 1) := dk_177 (dk_at dksX6_finds_0 23 rfl rfl)
abbrev cX6_tries : ByteArray := prog_13_method_3_code
def yX6_tries : MethodName := ⟨RX6, "tries", "(LRainWheel$Road;II)V"⟩
def dkwX6_tries_9 : List UInt8 := [182, 0, 41, 132, 6, 1, 167, 255, 185, 132, 5, 1, 167, 255, 154, 177]
abbrev dktX6_tries_9 : List UInt8 := dkwX6_tries_9 ++ []
def dkwX6_tries_8 : List UInt8 := [28, 21, 5, 79, 42, 180, 0, 21, 28, 21, 6, 79, 42, 43, 28, 4, 96, 29, 4, 21, 5, 120, 128]
abbrev dktX6_tries_8 : List UInt8 := dkwX6_tries_8 ++ dktX6_tries_9
def dkwX6_tries_7 : List UInt8 := [50, 25, 4, 182, 0, 67, 28, 21, 5, 21, 6, 182, 0, 71, 154, 0, 6, 167, 0, 33, 42, 180, 0, 17]
abbrev dktX6_tries_7 : List UInt8 := dkwX6_tries_7 ++ dktX6_tries_8
def dkwX6_tries_6 : List UInt8 := [167, 0, 80, 4, 54, 6, 21, 6, 4, 43, 180, 0, 64, 120, 162, 0, 66, 42, 180, 0, 11, 28, 4, 96]
abbrev dktX6_tries_6 : List UInt8 := dkwX6_tries_6 ++ dktX6_tries_7
def dkwX6_tries_5 : List UInt8 := [3, 54, 5, 21, 5, 43, 180, 0, 46, 162, 0, 99, 29, 21, 5, 122, 4, 126, 4, 160, 0, 6]
abbrev dktX6_tries_5 : List UInt8 := dkwX6_tries_5 ++ dktX6_tries_6
def dkwX6_tries_4 : List UInt8 := [42, 180, 0, 24, 3, 8, 184, 0, 58, 42, 180, 0, 21, 3, 42, 180, 0, 27, 3, 8, 184, 0, 58, 177]
abbrev dktX6_tries_4 : List UInt8 := dkwX6_tries_4 ++ dktX6_tries_5
def dkwX6_tries_3 : List UInt8 := [177, 42, 25, 4, 180, 0, 45, 181, 0, 33, 42, 25, 4, 182, 0, 51, 181, 0, 55, 42, 180, 0, 17, 3]
abbrev dktX6_tries_3 : List UInt8 := dkwX6_tries_3 ++ dktX6_tries_4
def dkwX6_tries_2 : List UInt8 := [25, 4, 180, 0, 45, 42, 180, 0, 33, 160, 0, 16, 25, 4, 182, 0, 51, 42, 180, 0, 55, 161, 0, 4]
abbrev dktX6_tries_2 : List UInt8 := dkwX6_tries_2 ++ dktX6_tries_3
def dkwX6_tries_1 : List UInt8 := [180, 0, 33, 164, 0, 4, 177, 28, 43, 180, 0, 46, 160, 0, 83, 42, 180, 0, 33, 2, 159, 0, 28]
abbrev dktX6_tries_1 : List UInt8 := dkwX6_tries_1 ++ dktX6_tries_2
def dkwX6_tries_0 : List UInt8 := [42, 180, 0, 11, 28, 50, 58, 4, 42, 180, 0, 33, 2, 159, 0, 16, 25, 4, 180, 0, 45, 42]
abbrev dktX6_tries_0 : List UInt8 := dkwX6_tries_0 ++ dktX6_tries_1
theorem dksX6_tries_0 : cX6_tries.data.toList.drop 0 = dktX6_tries_0 := by decide +kernel
theorem dksX6_tries_1 : cX6_tries.data.toList.drop 22 = dktX6_tries_1 := dk_seg dksX6_tries_0 22 rfl rfl
theorem dksX6_tries_2 : cX6_tries.data.toList.drop 45 = dktX6_tries_2 := dk_seg dksX6_tries_1 23 rfl rfl
theorem dksX6_tries_3 : cX6_tries.data.toList.drop 69 = dktX6_tries_3 := dk_seg dksX6_tries_2 24 rfl rfl
theorem dksX6_tries_4 : cX6_tries.data.toList.drop 93 = dktX6_tries_4 := dk_seg dksX6_tries_3 24 rfl rfl
theorem dksX6_tries_5 : cX6_tries.data.toList.drop 117 = dktX6_tries_5 := dk_seg dksX6_tries_4 24 rfl rfl
theorem dksX6_tries_6 : cX6_tries.data.toList.drop 139 = dktX6_tries_6 := dk_seg dksX6_tries_5 22 rfl rfl
theorem dksX6_tries_7 : cX6_tries.data.toList.drop 163 = dktX6_tries_7 := dk_seg dksX6_tries_6 24 rfl rfl
theorem dksX6_tries_8 : cX6_tries.data.toList.drop 187 = dktX6_tries_8 := dk_seg dksX6_tries_7 24 rfl rfl
theorem dksX6_tries_9 : cX6_tries.data.toList.drop 210 = dktX6_tries_9 := dk_seg dksX6_tries_8 23 rfl rfl
theorem dX6_tries_0 : decode cX6_tries 0 = .ok (.aload_n 0, 1) := dk_42 (dk_at dksX6_tries_0 0 rfl rfl)
theorem dX6_tries_1 : decode cX6_tries 1 = .ok (.getfield 11, 3) := dk_180 0 11 (dk_at dksX6_tries_0 1 rfl rfl)
theorem dX6_tries_4 : decode cX6_tries 4 = .ok (.iload_n 2, 1) := dk_28 (dk_at dksX6_tries_0 4 rfl rfl)
theorem dX6_tries_5 : decode cX6_tries 5 = .ok (.aaload, 1) := dk_50 (dk_at dksX6_tries_0 5 rfl rfl)
theorem dX6_tries_6 : decode cX6_tries 6 = .ok (.astore 4, 2) := dk_58 4 (dk_at dksX6_tries_0 6 rfl rfl)
theorem dX6_tries_8 : decode cX6_tries 8 = .ok (.aload_n 0, 1) := dk_42 (dk_at dksX6_tries_0 8 rfl rfl)
theorem dX6_tries_9 : decode cX6_tries 9 = .ok (.getfield 33, 3) := dk_180 0 33 (dk_at dksX6_tries_0 9 rfl rfl)
theorem dX6_tries_12 : decode cX6_tries 12 = .ok (.iconst (-1), 1) := dk_2 (dk_at dksX6_tries_0 12 rfl rfl)
theorem dX6_tries_13 : decode cX6_tries 13 = .ok (.if_icmp .eq 16, 3) := dk_159 0 16 (dk_at dksX6_tries_0 13 rfl rfl)
theorem dX6_tries_16 : decode cX6_tries 16 = .ok (.aload 4, 2) := dk_25 4 (dk_at dksX6_tries_0 16 rfl rfl)
theorem dX6_tries_18 : decode cX6_tries 18 = .ok (.getfield 45, 3) := dk_180 0 45 (dk_at dksX6_tries_0 18 rfl rfl)
theorem dX6_tries_21 : decode cX6_tries 21 = .ok (.aload_n 0, 1) := dk_42 (dk_at dksX6_tries_0 21 rfl rfl)
theorem dX6_tries_22 : decode cX6_tries 22 = .ok (.getfield 33, 3) := dk_180 0 33 (dk_at dksX6_tries_1 0 rfl rfl)
theorem dX6_tries_25 : decode cX6_tries 25 = .ok (.if_icmp .le 4, 3) := dk_164 0 4 (dk_at dksX6_tries_1 3 rfl rfl)
theorem dX6_tries_28 : decode cX6_tries 28 = .ok (.return_, 1) := dk_177 (dk_at dksX6_tries_1 6 rfl rfl)
theorem dX6_tries_29 : decode cX6_tries 29 = .ok (.iload_n 2, 1) := dk_28 (dk_at dksX6_tries_1 7 rfl rfl)
theorem dX6_tries_30 : decode cX6_tries 30 = .ok (.aload_n 1, 1) := dk_43 (dk_at dksX6_tries_1 8 rfl rfl)
theorem dX6_tries_31 : decode cX6_tries 31 = .ok (.getfield 46, 3) := dk_180 0 46 (dk_at dksX6_tries_1 9 rfl rfl)
theorem dX6_tries_34 : decode cX6_tries 34 = .ok (.if_icmp .ne 83, 3) := dk_160 0 83 (dk_at dksX6_tries_1 12 rfl rfl)
theorem dX6_tries_37 : decode cX6_tries 37 = .ok (.aload_n 0, 1) := dk_42 (dk_at dksX6_tries_1 15 rfl rfl)
theorem dX6_tries_38 : decode cX6_tries 38 = .ok (.getfield 33, 3) := dk_180 0 33 (dk_at dksX6_tries_1 16 rfl rfl)
theorem dX6_tries_41 : decode cX6_tries 41 = .ok (.iconst (-1), 1) := dk_2 (dk_at dksX6_tries_1 19 rfl rfl)
theorem dX6_tries_42 : decode cX6_tries 42 = .ok (.if_icmp .eq 28, 3) := dk_159 0 28 (dk_at dksX6_tries_1 20 rfl rfl)
theorem dX6_tries_45 : decode cX6_tries 45 = .ok (.aload 4, 2) := dk_25 4 (dk_at dksX6_tries_2 0 rfl rfl)
theorem dX6_tries_47 : decode cX6_tries 47 = .ok (.getfield 45, 3) := dk_180 0 45 (dk_at dksX6_tries_2 2 rfl rfl)
theorem dX6_tries_50 : decode cX6_tries 50 = .ok (.aload_n 0, 1) := dk_42 (dk_at dksX6_tries_2 5 rfl rfl)
theorem dX6_tries_51 : decode cX6_tries 51 = .ok (.getfield 33, 3) := dk_180 0 33 (dk_at dksX6_tries_2 6 rfl rfl)
theorem dX6_tries_54 : decode cX6_tries 54 = .ok (.if_icmp .ne 16, 3) := dk_160 0 16 (dk_at dksX6_tries_2 9 rfl rfl)
theorem dX6_tries_57 : decode cX6_tries 57 = .ok (.aload 4, 2) := dk_25 4 (dk_at dksX6_tries_2 12 rfl rfl)
theorem dX6_tries_59 : decode cX6_tries 59 = .ok (.invokevirtual 51, 3) := dk_182 0 51 (dk_at dksX6_tries_2 14 rfl rfl)
theorem dX6_tries_62 : decode cX6_tries 62 = .ok (.aload_n 0, 1) := dk_42 (dk_at dksX6_tries_2 17 rfl rfl)
theorem dX6_tries_63 : decode cX6_tries 63 = .ok (.getfield 55, 3) := dk_180 0 55 (dk_at dksX6_tries_2 18 rfl rfl)
theorem dX6_tries_66 : decode cX6_tries 66 = .ok (.if_icmp .lt 4, 3) := dk_161 0 4 (dk_at dksX6_tries_2 21 rfl rfl)
theorem dX6_tries_69 : decode cX6_tries 69 = .ok (.return_, 1) := dk_177 (dk_at dksX6_tries_3 0 rfl rfl)
theorem dX6_tries_70 : decode cX6_tries 70 = .ok (.aload_n 0, 1) := dk_42 (dk_at dksX6_tries_3 1 rfl rfl)
theorem dX6_tries_71 : decode cX6_tries 71 = .ok (.aload 4, 2) := dk_25 4 (dk_at dksX6_tries_3 2 rfl rfl)
theorem dX6_tries_73 : decode cX6_tries 73 = .ok (.getfield 45, 3) := dk_180 0 45 (dk_at dksX6_tries_3 4 rfl rfl)
theorem dX6_tries_76 : decode cX6_tries 76 = .ok (.putfield 33, 3) := dk_181 0 33 (dk_at dksX6_tries_3 7 rfl rfl)
theorem dX6_tries_79 : decode cX6_tries 79 = .ok (.aload_n 0, 1) := dk_42 (dk_at dksX6_tries_3 10 rfl rfl)
theorem dX6_tries_80 : decode cX6_tries 80 = .ok (.aload 4, 2) := dk_25 4 (dk_at dksX6_tries_3 11 rfl rfl)
theorem dX6_tries_82 : decode cX6_tries 82 = .ok (.invokevirtual 51, 3) := dk_182 0 51 (dk_at dksX6_tries_3 13 rfl rfl)
theorem dX6_tries_85 : decode cX6_tries 85 = .ok (.putfield 55, 3) := dk_181 0 55 (dk_at dksX6_tries_3 16 rfl rfl)
theorem dX6_tries_88 : decode cX6_tries 88 = .ok (.aload_n 0, 1) := dk_42 (dk_at dksX6_tries_3 19 rfl rfl)
theorem dX6_tries_89 : decode cX6_tries 89 = .ok (.getfield 17, 3) := dk_180 0 17 (dk_at dksX6_tries_3 20 rfl rfl)
theorem dX6_tries_92 : decode cX6_tries 92 = .ok (.iconst 0, 1) := dk_3 (dk_at dksX6_tries_3 23 rfl rfl)
theorem dX6_tries_93 : decode cX6_tries 93 = .ok (.aload_n 0, 1) := dk_42 (dk_at dksX6_tries_4 0 rfl rfl)
theorem dX6_tries_94 : decode cX6_tries 94 = .ok (.getfield 24, 3) := dk_180 0 24 (dk_at dksX6_tries_4 1 rfl rfl)
theorem dX6_tries_97 : decode cX6_tries 97 = .ok (.iconst 0, 1) := dk_3 (dk_at dksX6_tries_4 4 rfl rfl)
theorem dX6_tries_98 : decode cX6_tries 98 = .ok (.iconst 5, 1) := dk_8 (dk_at dksX6_tries_4 5 rfl rfl)
theorem dX6_tries_99 : decode cX6_tries 99 = .ok (.invokestatic 58, 3) := dk_184 0 58 (dk_at dksX6_tries_4 6 rfl rfl)
theorem dX6_tries_102 : decode cX6_tries 102 = .ok (.aload_n 0, 1) := dk_42 (dk_at dksX6_tries_4 9 rfl rfl)
theorem dX6_tries_103 : decode cX6_tries 103 = .ok (.getfield 21, 3) := dk_180 0 21 (dk_at dksX6_tries_4 10 rfl rfl)
theorem dX6_tries_106 : decode cX6_tries 106 = .ok (.iconst 0, 1) := dk_3 (dk_at dksX6_tries_4 13 rfl rfl)
theorem dX6_tries_107 : decode cX6_tries 107 = .ok (.aload_n 0, 1) := dk_42 (dk_at dksX6_tries_4 14 rfl rfl)
theorem dX6_tries_108 : decode cX6_tries 108 = .ok (.getfield 27, 3) := dk_180 0 27 (dk_at dksX6_tries_4 15 rfl rfl)
theorem dX6_tries_111 : decode cX6_tries 111 = .ok (.iconst 0, 1) := dk_3 (dk_at dksX6_tries_4 18 rfl rfl)
theorem dX6_tries_112 : decode cX6_tries 112 = .ok (.iconst 5, 1) := dk_8 (dk_at dksX6_tries_4 19 rfl rfl)
theorem dX6_tries_113 : decode cX6_tries 113 = .ok (.invokestatic 58, 3) := dk_184 0 58 (dk_at dksX6_tries_4 20 rfl rfl)
theorem dX6_tries_116 : decode cX6_tries 116 = .ok (.return_, 1) := dk_177 (dk_at dksX6_tries_4 23 rfl rfl)
theorem dX6_tries_117 : decode cX6_tries 117 = .ok (.iconst 0, 1) := dk_3 (dk_at dksX6_tries_5 0 rfl rfl)
theorem dX6_tries_118 : decode cX6_tries 118 = .ok (.istore 5, 2) := dk_54 5 (dk_at dksX6_tries_5 1 rfl rfl)
theorem dX6_tries_120 : decode cX6_tries 120 = .ok (.iload 5, 2) := dk_21 5 (dk_at dksX6_tries_5 3 rfl rfl)
theorem dX6_tries_122 : decode cX6_tries 122 = .ok (.aload_n 1, 1) := dk_43 (dk_at dksX6_tries_5 5 rfl rfl)
theorem dX6_tries_123 : decode cX6_tries 123 = .ok (.getfield 46, 3) := dk_180 0 46 (dk_at dksX6_tries_5 6 rfl rfl)
theorem dX6_tries_126 : decode cX6_tries 126 = .ok (.if_icmp .ge 99, 3) := dk_162 0 99 (dk_at dksX6_tries_5 9 rfl rfl)
theorem dX6_tries_129 : decode cX6_tries 129 = .ok (.iload_n 3, 1) := dk_29 (dk_at dksX6_tries_5 12 rfl rfl)
theorem dX6_tries_130 : decode cX6_tries 130 = .ok (.iload 5, 2) := dk_21 5 (dk_at dksX6_tries_5 13 rfl rfl)
theorem dX6_tries_132 : decode cX6_tries 132 = .ok (.ishr, 1) := dk_122 (dk_at dksX6_tries_5 15 rfl rfl)
theorem dX6_tries_133 : decode cX6_tries 133 = .ok (.iconst 1, 1) := dk_4 (dk_at dksX6_tries_5 16 rfl rfl)
theorem dX6_tries_134 : decode cX6_tries 134 = .ok (.iand, 1) := dk_126 (dk_at dksX6_tries_5 17 rfl rfl)
theorem dX6_tries_135 : decode cX6_tries 135 = .ok (.iconst 1, 1) := dk_4 (dk_at dksX6_tries_5 18 rfl rfl)
theorem dX6_tries_136 : decode cX6_tries 136 = .ok (.if_icmp .ne 6, 3) := dk_160 0 6 (dk_at dksX6_tries_5 19 rfl rfl)
theorem dX6_tries_139 : decode cX6_tries 139 = .ok (.goto 80, 3) := dk_167 0 80 (dk_at dksX6_tries_6 0 rfl rfl)
theorem dX6_tries_142 : decode cX6_tries 142 = .ok (.iconst 1, 1) := dk_4 (dk_at dksX6_tries_6 3 rfl rfl)
theorem dX6_tries_143 : decode cX6_tries 143 = .ok (.istore 6, 2) := dk_54 6 (dk_at dksX6_tries_6 4 rfl rfl)
theorem dX6_tries_145 : decode cX6_tries 145 = .ok (.iload 6, 2) := dk_21 6 (dk_at dksX6_tries_6 6 rfl rfl)
theorem dX6_tries_147 : decode cX6_tries 147 = .ok (.iconst 1, 1) := dk_4 (dk_at dksX6_tries_6 8 rfl rfl)
theorem dX6_tries_148 : decode cX6_tries 148 = .ok (.aload_n 1, 1) := dk_43 (dk_at dksX6_tries_6 9 rfl rfl)
theorem dX6_tries_149 : decode cX6_tries 149 = .ok (.getfield 64, 3) := dk_180 0 64 (dk_at dksX6_tries_6 10 rfl rfl)
theorem dX6_tries_152 : decode cX6_tries 152 = .ok (.ishl, 1) := dk_120 (dk_at dksX6_tries_6 13 rfl rfl)
theorem dX6_tries_153 : decode cX6_tries 153 = .ok (.if_icmp .ge 66, 3) := dk_162 0 66 (dk_at dksX6_tries_6 14 rfl rfl)
theorem dX6_tries_156 : decode cX6_tries 156 = .ok (.aload_n 0, 1) := dk_42 (dk_at dksX6_tries_6 17 rfl rfl)
theorem dX6_tries_157 : decode cX6_tries 157 = .ok (.getfield 11, 3) := dk_180 0 11 (dk_at dksX6_tries_6 18 rfl rfl)
theorem dX6_tries_160 : decode cX6_tries 160 = .ok (.iload_n 2, 1) := dk_28 (dk_at dksX6_tries_6 21 rfl rfl)
theorem dX6_tries_161 : decode cX6_tries 161 = .ok (.iconst 1, 1) := dk_4 (dk_at dksX6_tries_6 22 rfl rfl)
theorem dX6_tries_162 : decode cX6_tries 162 = .ok (.iadd, 1) := dk_96 (dk_at dksX6_tries_6 23 rfl rfl)
theorem dX6_tries_163 : decode cX6_tries 163 = .ok (.aaload, 1) := dk_50 (dk_at dksX6_tries_7 0 rfl rfl)
theorem dX6_tries_164 : decode cX6_tries 164 = .ok (.aload 4, 2) := dk_25 4 (dk_at dksX6_tries_7 1 rfl rfl)
theorem dX6_tries_166 : decode cX6_tries 166 = .ok (.invokevirtual 67, 3) := dk_182 0 67 (dk_at dksX6_tries_7 3 rfl rfl)
theorem dX6_tries_169 : decode cX6_tries 169 = .ok (.iload_n 2, 1) := dk_28 (dk_at dksX6_tries_7 6 rfl rfl)
theorem dX6_tries_170 : decode cX6_tries 170 = .ok (.iload 5, 2) := dk_21 5 (dk_at dksX6_tries_7 7 rfl rfl)
theorem dX6_tries_172 : decode cX6_tries 172 = .ok (.iload 6, 2) := dk_21 6 (dk_at dksX6_tries_7 9 rfl rfl)
theorem dX6_tries_174 : decode cX6_tries 174 = .ok (.invokevirtual 71, 3) := dk_182 0 71 (dk_at dksX6_tries_7 11 rfl rfl)
theorem dX6_tries_177 : decode cX6_tries 177 = .ok (.ifCond .ne 6, 3) := dk_154 0 6 (dk_at dksX6_tries_7 14 rfl rfl)
theorem dX6_tries_180 : decode cX6_tries 180 = .ok (.goto 33, 3) := dk_167 0 33 (dk_at dksX6_tries_7 17 rfl rfl)
theorem dX6_tries_183 : decode cX6_tries 183 = .ok (.aload_n 0, 1) := dk_42 (dk_at dksX6_tries_7 20 rfl rfl)
theorem dX6_tries_184 : decode cX6_tries 184 = .ok (.getfield 17, 3) := dk_180 0 17 (dk_at dksX6_tries_7 21 rfl rfl)
theorem dX6_tries_187 : decode cX6_tries 187 = .ok (.iload_n 2, 1) := dk_28 (dk_at dksX6_tries_8 0 rfl rfl)
theorem dX6_tries_188 : decode cX6_tries 188 = .ok (.iload 5, 2) := dk_21 5 (dk_at dksX6_tries_8 1 rfl rfl)
theorem dX6_tries_190 : decode cX6_tries 190 = .ok (.iastore, 1) := dk_79 (dk_at dksX6_tries_8 3 rfl rfl)
theorem dX6_tries_191 : decode cX6_tries 191 = .ok (.aload_n 0, 1) := dk_42 (dk_at dksX6_tries_8 4 rfl rfl)
theorem dX6_tries_192 : decode cX6_tries 192 = .ok (.getfield 21, 3) := dk_180 0 21 (dk_at dksX6_tries_8 5 rfl rfl)
theorem dX6_tries_195 : decode cX6_tries 195 = .ok (.iload_n 2, 1) := dk_28 (dk_at dksX6_tries_8 8 rfl rfl)
theorem dX6_tries_196 : decode cX6_tries 196 = .ok (.iload 6, 2) := dk_21 6 (dk_at dksX6_tries_8 9 rfl rfl)
theorem dX6_tries_198 : decode cX6_tries 198 = .ok (.iastore, 1) := dk_79 (dk_at dksX6_tries_8 11 rfl rfl)
theorem dX6_tries_199 : decode cX6_tries 199 = .ok (.aload_n 0, 1) := dk_42 (dk_at dksX6_tries_8 12 rfl rfl)
theorem dX6_tries_200 : decode cX6_tries 200 = .ok (.aload_n 1, 1) := dk_43 (dk_at dksX6_tries_8 13 rfl rfl)
theorem dX6_tries_201 : decode cX6_tries 201 = .ok (.iload_n 2, 1) := dk_28 (dk_at dksX6_tries_8 14 rfl rfl)
theorem dX6_tries_202 : decode cX6_tries 202 = .ok (.iconst 1, 1) := dk_4 (dk_at dksX6_tries_8 15 rfl rfl)
theorem dX6_tries_203 : decode cX6_tries 203 = .ok (.iadd, 1) := dk_96 (dk_at dksX6_tries_8 16 rfl rfl)
theorem dX6_tries_204 : decode cX6_tries 204 = .ok (.iload_n 3, 1) := dk_29 (dk_at dksX6_tries_8 17 rfl rfl)
theorem dX6_tries_205 : decode cX6_tries 205 = .ok (.iconst 1, 1) := dk_4 (dk_at dksX6_tries_8 18 rfl rfl)
theorem dX6_tries_206 : decode cX6_tries 206 = .ok (.iload 5, 2) := dk_21 5 (dk_at dksX6_tries_8 19 rfl rfl)
theorem dX6_tries_208 : decode cX6_tries 208 = .ok (.ishl, 1) := dk_120 (dk_at dksX6_tries_8 21 rfl rfl)
theorem dX6_tries_209 : decode cX6_tries 209 = .ok (.ior, 1) := dk_128 (dk_at dksX6_tries_8 22 rfl rfl)
theorem dX6_tries_210 : decode cX6_tries 210 = .ok (.invokevirtual 41, 3) := dk_182 0 41 (dk_at dksX6_tries_9 0 rfl rfl)
theorem dX6_tries_213 : decode cX6_tries 213 = .ok (.iinc 6 1, 3) := dk_132 6 1 (dk_at dksX6_tries_9 3 rfl rfl)
theorem dX6_tries_216 : decode cX6_tries 216 = .ok (.goto (-71), 3) := dk_167 255 185 (dk_at dksX6_tries_9 6 rfl rfl)
theorem dX6_tries_219 : decode cX6_tries 219 = .ok (.iinc 5 1, 3) := dk_132 5 1 (dk_at dksX6_tries_9 9 rfl rfl)
theorem dX6_tries_222 : decode cX6_tries 222 = .ok (.goto (-102), 3) := dk_167 255 154 (dk_at dksX6_tries_9 12 rfl rfl)
theorem dX6_tries_225 : decode cX6_tries 225 = .ok (.return_, 1) := dk_177 (dk_at dksX6_tries_9 15 rfl rfl)
theorem q101 : (Jvm.Cond.initialized "RainWheel$Soonest") ∈ lw_all := lw_g (lw_at lw_m1 6 rfl) rfl
theorem q231 : (Jvm.Cond.fieldLinkNest "RainWheel$Soonest" (45 : Nat) "RainWheel$Watch" "span" "I" "RainWheel") ∈ lw_tbl := lw_at lw_m1 136 rfl
theorem q271 : (Jvm.Cond.instantiable "RainWheel$Soonest" (7 : Nat)) ∈ lw_all := lw_g (lw_at lw_m1 176 rfl) rfl
theorem q273 : (Jvm.Cond.instanceMethod ({ cls := "RainWheel$Soonest", name := "<init>", desc := "(LRainWheel$Law;)V" } : Jvm.MethodName)) ∈ lw_all := lw_g (lw_at lw_m1 178 rfl) rfl
theorem q274 : (Jvm.Cond.code ({ cls := "RainWheel$Soonest", name := "<init>", desc := "(LRainWheel$Law;)V" } : Jvm.MethodName) prog_13_method_1_code (3 : Nat) (Option.none : Option Jvm.ClassFile.FieldType)) ∈ lw_all := lw_g (lw_at lw_m1 179 rfl) rfl
theorem q275 : (Jvm.Cond.methodLink "RainWheel$Soonest" (3 : Nat) ({ cls := "java/lang/Object", name := "<init>", desc := "()V" } : Jvm.MethodName)) ∈ lw_all := lw_g (lw_at lw_m1 180 rfl) rfl
theorem q276 : (Jvm.Cond.classLink "RainWheel$Soonest" (9 : Nat) "RainWheel$Watch") ∈ lw_all := lw_g (lw_at lw_m1 181 rfl) rfl
theorem q278 : (Jvm.Cond.methodLink "RainWheel$Soonest" (30 : Nat) ({ cls := "RainWheel$Watch", name := "<init>", desc := "(LRainWheel$Law;)V" } : Jvm.MethodName)) ∈ lw_all := lw_g (lw_at lw_m1 183 rfl) rfl
theorem q279 : (Jvm.Cond.fieldLink "RainWheel$Soonest" (11 : Nat) "RainWheel$Soonest" "watch" "[LRainWheel$Watch;") ∈ lw_all := lw_g (lw_at lw_m1 184 rfl) rfl
theorem q280 : (Jvm.Cond.fieldLink "RainWheel$Soonest" (17 : Nat) "RainWheel$Soonest" "deed" "[I") ∈ lw_all := lw_g (lw_at lw_m1 185 rfl) rfl
theorem q281 : (Jvm.Cond.fieldLink "RainWheel$Soonest" (21 : Nat) "RainWheel$Soonest" "who" "[I") ∈ lw_all := lw_g (lw_at lw_m1 186 rfl) rfl
theorem q282 : (Jvm.Cond.fieldLink "RainWheel$Soonest" (24 : Nat) "RainWheel$Soonest" "bestDeed" "[I") ∈ lw_all := lw_g (lw_at lw_m1 187 rfl) rfl
theorem q284 : (Jvm.Cond.fieldLink "RainWheel$Soonest" (27 : Nat) "RainWheel$Soonest" "bestWho" "[I") ∈ lw_all := lw_g (lw_at lw_m1 189 rfl) rfl
theorem q286 : (Jvm.Cond.fieldLink "RainWheel$Soonest" (33 : Nat) "RainWheel$Soonest" "span" "I") ∈ lw_all := lw_g (lw_at lw_m1 191 rfl) rfl
theorem q288 : (Jvm.Cond.fieldLink "RainWheel$Soonest" (55 : Nat) "RainWheel$Soonest" "wet" "I") ∈ lw_all := lw_g (lw_at lw_m1 193 rfl) rfl
theorem q290 : (Jvm.Cond.laysFinal "RainWheel$Soonest" "RainWheel$Soonest" "watch" "[LRainWheel$Watch;") ∈ lw_all := lw_g (lw_at lw_m1 195 rfl) rfl
theorem q291 : (Jvm.Cond.soleField "RainWheel$Soonest" "watch") ∈ lw_all := lw_g (lw_at lw_m1 196 rfl) rfl
theorem q292 : (Jvm.Cond.laysFinal "RainWheel$Soonest" "RainWheel$Soonest" "deed" "[I") ∈ lw_all := lw_g (lw_at lw_m1 197 rfl) rfl
theorem q293 : (Jvm.Cond.soleField "RainWheel$Soonest" "deed") ∈ lw_all := lw_g (lw_at lw_m1 198 rfl) rfl
theorem q294 : (Jvm.Cond.laysFinal "RainWheel$Soonest" "RainWheel$Soonest" "who" "[I") ∈ lw_all := lw_g (lw_at lw_m1 199 rfl) rfl
theorem q295 : (Jvm.Cond.soleField "RainWheel$Soonest" "who") ∈ lw_all := lw_g (lw_at lw_m1 200 rfl) rfl
theorem q296 : (Jvm.Cond.laysFinal "RainWheel$Soonest" "RainWheel$Soonest" "bestDeed" "[I") ∈ lw_all := lw_g (lw_at lw_m1 201 rfl) rfl
theorem q297 : (Jvm.Cond.soleField "RainWheel$Soonest" "bestDeed") ∈ lw_all := lw_g (lw_at lw_m1 202 rfl) rfl
theorem q298 : (Jvm.Cond.laysFinal "RainWheel$Soonest" "RainWheel$Soonest" "bestWho" "[I") ∈ lw_all := lw_g (lw_at lw_m1 203 rfl) rfl
theorem q299 : (Jvm.Cond.soleField "RainWheel$Soonest" "bestWho") ∈ lw_all := lw_g (lw_at lw_m1 204 rfl) rfl
theorem q300 : (Jvm.Cond.lays "RainWheel$Soonest" "RainWheel$Soonest" "span" "I") ∈ lw_all := lw_g (lw_at lw_m1 205 rfl) rfl
theorem q301 : (Jvm.Cond.soleField "RainWheel$Soonest" "span") ∈ lw_all := lw_g (lw_at lw_m1 206 rfl) rfl
theorem q302 : (Jvm.Cond.lays "RainWheel$Soonest" "RainWheel$Soonest" "wet" "I") ∈ lw_all := lw_g (lw_at lw_m1 207 rfl) rfl
theorem q303 : (Jvm.Cond.soleField "RainWheel$Soonest" "wet") ∈ lw_all := lw_g (lw_at lw_m1 208 rfl) rfl
theorem q304 : (Jvm.Cond.superclass "RainWheel$Soonest" "java/lang/Object") ∈ lw_all := lw_g (lw_at lw_m1 209 rfl) rfl
theorem q396 : (Jvm.Cond.fieldLinkNest "RainWheel$Soonest" (64 : Nat) "RainWheel$Road" "people" "I" "RainWheel") ∈ lw_tbl := lw_at lw_m2 61 rfl
theorem q402 : (Jvm.Cond.fieldLinkNest "RainWheel$Soonest" (46 : Nat) "RainWheel$Road" "deeds" "I" "RainWheel") ∈ lw_tbl := lw_at lw_m2 67 rfl
theorem q1283 : (Jvm.Cond.instanceMethod ({ cls := "RainWheel$Soonest", name := "finds", desc := "(LRainWheel$Road;)V" } : Jvm.MethodName)) ∈ lw_all := lw_g (lw_at lw_m5 228 rfl) rfl
theorem q1284 : (Jvm.Cond.selects "RainWheel$Soonest" ({ cls := "RainWheel$Soonest", name := "finds", desc := "(LRainWheel$Road;)V" } : Jvm.MethodName) ({ cls := "RainWheel$Soonest", name := "finds", desc := "(LRainWheel$Road;)V" } : Jvm.MethodName)) ∈ lw_all := lw_g (lw_at lw_m5 229 rfl) rfl
theorem q1285 : (Jvm.Cond.code ({ cls := "RainWheel$Soonest", name := "finds", desc := "(LRainWheel$Road;)V" } : Jvm.MethodName) prog_13_method_2_code (2 : Nat) (Option.none : Option Jvm.ClassFile.FieldType)) ∈ lw_all := lw_g (lw_at lw_m5 230 rfl) rfl
theorem q1286 : (Jvm.Cond.methodLink "RainWheel$Soonest" (37 : Nat) ({ cls := "RainWheel$Watch", name := "starts", desc := "(LRainWheel$Road;)LRainWheel$Watch;" } : Jvm.MethodName)) ∈ lw_all := lw_g (lw_at lw_m5 231 rfl) rfl
theorem q1287 : (Jvm.Cond.methodLink "RainWheel$Soonest" (41 : Nat) ({ cls := "RainWheel$Soonest", name := "tries", desc := "(LRainWheel$Road;II)V" } : Jvm.MethodName)) ∈ lw_all := lw_g (lw_at lw_m5 232 rfl) rfl
theorem q1288 : (Jvm.Cond.privateMethod ({ cls := "RainWheel$Soonest", name := "tries", desc := "(LRainWheel$Road;II)V" } : Jvm.MethodName)) ∈ lw_tbl := lw_at lw_m5 233 rfl
theorem q1289 : (Jvm.Cond.instanceMethod ({ cls := "RainWheel$Soonest", name := "tries", desc := "(LRainWheel$Road;II)V" } : Jvm.MethodName)) ∈ lw_all := lw_g (lw_at lw_m5 234 rfl) rfl
theorem q1290 : (Jvm.Cond.code ({ cls := "RainWheel$Soonest", name := "tries", desc := "(LRainWheel$Road;II)V" } : Jvm.MethodName) prog_13_method_3_code (7 : Nat) (Option.none : Option Jvm.ClassFile.FieldType)) ∈ lw_all := lw_g (lw_at lw_m5 235 rfl) rfl
theorem q1291 : (Jvm.Cond.methodLink "RainWheel$Soonest" (51 : Nat) ({ cls := "RainWheel$Watch", name := "allWet", desc := "()I" } : Jvm.MethodName)) ∈ lw_all := lw_g (lw_at lw_m5 236 rfl) rfl
theorem q1295 : (Jvm.Cond.methodLink "RainWheel$Soonest" (58 : Nat) ({ cls := "java/lang/System", name := "arraycopy", desc := "(Ljava/lang/Object;ILjava/lang/Object;II)V" } : Jvm.MethodName)) ∈ lw_all := lw_g (lw_at lw_m6 0 rfl) rfl
theorem q1296 : (Jvm.Cond.methodLink "RainWheel$Soonest" (67 : Nat) ({ cls := "RainWheel$Watch", name := "as", desc := "(LRainWheel$Watch;)LRainWheel$Watch;" } : Jvm.MethodName)) ∈ lw_all := lw_g (lw_at lw_m6 1 rfl) rfl
theorem q1301 : (Jvm.Cond.methodLink "RainWheel$Soonest" (71 : Nat) ({ cls := "RainWheel$Watch", name := "comes", desc := "(III)Z" } : Jvm.MethodName)) ∈ lw_all := lw_g (lw_at lw_m6 6 rfl) rfl
theorem q2256 : (Jvm.Cond.castable "RainWheel$Soonest" "java/lang/Object") ∈ lw_tbl := lw_at lw_m10 1 rfl

abbrev cX7_init : ByteArray := prog_9_method_1_code
def yX7_init : MethodName := ⟨RX7, "<init>", "()V"⟩
def dkwX7_init_0 : List UInt8 := [42, 183, 0, 3, 42, 16, 6, 188, 10, 181, 0, 9, 177]
abbrev dktX7_init_0 : List UInt8 := dkwX7_init_0 ++ []
theorem dksX7_init_0 : cX7_init.data.toList.drop 0 = dktX7_init_0 := by decide +kernel
theorem dX7_init_0 : decode cX7_init 0 = .ok (.aload_n 0, 1) := dk_42 (dk_at dksX7_init_0 0 rfl rfl)
theorem dX7_init_1 : decode cX7_init 1 = .ok (.invokespecial 3, 3) := dk_183 0 3 (dk_at dksX7_init_0 1 rfl rfl)
theorem dX7_init_4 : decode cX7_init 4 = .ok (.aload_n 0, 1) := dk_42 (dk_at dksX7_init_0 4 rfl rfl)
theorem dX7_init_5 : decode cX7_init 5 = .ok (.bipush 6, 2) := dk_16 6 (dk_at dksX7_init_0 5 rfl rfl)
theorem dX7_init_7 : decode cX7_init 7 = .ok (.newarray .int, 2) := dk_188_10 (dk_at dksX7_init_0 7 rfl rfl)
theorem dX7_init_9 : decode cX7_init 9 = .ok (.putfield 9, 3) := dk_181 0 9 (dk_at dksX7_init_0 9 rfl rfl)
theorem dX7_init_12 : decode cX7_init 12 = .ok (.return_, 1) := dk_177 (dk_at dksX7_init_0 12 rfl rfl)
abbrev cX7_finds : ByteArray := prog_9_method_3_code
def yX7_finds : MethodName := ⟨RX7, "finds", "(I)V"⟩
def dkwX7_finds_0 : List UInt8 := [42, 27, 181, 0, 25, 42, 2, 181, 0, 29, 42, 3, 3, 3, 182, 0, 32, 177]
abbrev dktX7_finds_0 : List UInt8 := dkwX7_finds_0 ++ []
theorem dksX7_finds_0 : cX7_finds.data.toList.drop 0 = dktX7_finds_0 := by decide +kernel
theorem dX7_finds_0 : decode cX7_finds 0 = .ok (.aload_n 0, 1) := dk_42 (dk_at dksX7_finds_0 0 rfl rfl)
theorem dX7_finds_1 : decode cX7_finds 1 = .ok (.iload_n 1, 1) := dk_27 (dk_at dksX7_finds_0 1 rfl rfl)
theorem dX7_finds_2 : decode cX7_finds 2 = .ok (.putfield 25, 3) := dk_181 0 25 (dk_at dksX7_finds_0 2 rfl rfl)
theorem dX7_finds_5 : decode cX7_finds 5 = .ok (.aload_n 0, 1) := dk_42 (dk_at dksX7_finds_0 5 rfl rfl)
theorem dX7_finds_6 : decode cX7_finds 6 = .ok (.iconst (-1), 1) := dk_2 (dk_at dksX7_finds_0 6 rfl rfl)
theorem dX7_finds_7 : decode cX7_finds 7 = .ok (.putfield 29, 3) := dk_181 0 29 (dk_at dksX7_finds_0 7 rfl rfl)
theorem dX7_finds_10 : decode cX7_finds 10 = .ok (.aload_n 0, 1) := dk_42 (dk_at dksX7_finds_0 10 rfl rfl)
theorem dX7_finds_11 : decode cX7_finds 11 = .ok (.iconst 0, 1) := dk_3 (dk_at dksX7_finds_0 11 rfl rfl)
theorem dX7_finds_12 : decode cX7_finds 12 = .ok (.iconst 0, 1) := dk_3 (dk_at dksX7_finds_0 12 rfl rfl)
theorem dX7_finds_13 : decode cX7_finds 13 = .ok (.iconst 0, 1) := dk_3 (dk_at dksX7_finds_0 13 rfl rfl)
theorem dX7_finds_14 : decode cX7_finds 14 = .ok (.invokevirtual 32, 3) := dk_182 0 32 (dk_at dksX7_finds_0 14 rfl rfl)
theorem dX7_finds_17 : decode cX7_finds 17 = .ok (.return_, 1) := dk_177 (dk_at dksX7_finds_0 17 rfl rfl)
abbrev cX7_tries : ByteArray := prog_9_method_4_code
def yX7_tries : MethodName := ⟨RX7, "tries", "(III)V"⟩
def dkwX7_tries_6 : List UInt8 := [21, 4, 184, 0, 39, 96, 182, 0, 32, 132, 4, 1, 167, 255, 183, 177]
abbrev dktX7_tries_6 : List UInt8 := dkwX7_tries_6 ++ []
def dkwX7_tries_5 : List UInt8 := [120, 128, 29, 27, 154, 0, 7, 3, 167, 0, 20, 42, 180, 0, 25, 42, 180, 0, 9, 27, 4, 100, 46]
abbrev dktX7_tries_5 : List UInt8 := dkwX7_tries_5 ++ dktX7_tries_6
def dkwX7_tries_4 : List UInt8 := [126, 4, 160, 0, 6, 167, 0, 51, 42, 180, 0, 9, 27, 21, 4, 79, 42, 27, 4, 96, 28, 4, 21, 4]
abbrev dktX7_tries_4 : List UInt8 := dkwX7_tries_4 ++ dktX7_tries_5
def dkwX7_tries_3 : List UInt8 := [132, 4, 1, 167, 255, 223, 177, 3, 54, 4, 21, 4, 42, 180, 0, 25, 162, 0, 70, 28, 21, 4, 122, 4]
abbrev dktX7_tries_3 : List UInt8 := dkwX7_tries_3 ++ dktX7_tries_4
def dkwX7_tries_2 : List UInt8 := [162, 0, 30, 42, 16, 10, 42, 180, 0, 36, 104, 42, 180, 0, 9, 21, 4, 46, 96, 4, 96, 181, 0, 36]
abbrev dktX7_tries_2 : List UInt8 := dkwX7_tries_2 ++ dktX7_tries_3
def dkwX7_tries_1 : List UInt8 := [160, 0, 53, 42, 29, 181, 0, 29, 42, 3, 181, 0, 36, 3, 54, 4, 21, 4, 42, 180, 0, 25]
abbrev dktX7_tries_1 : List UInt8 := dkwX7_tries_1 ++ dktX7_tries_2
def dkwX7_tries_0 : List UInt8 := [42, 180, 0, 29, 2, 159, 0, 12, 29, 42, 180, 0, 29, 161, 0, 4, 177, 27, 42, 180, 0, 25]
abbrev dktX7_tries_0 : List UInt8 := dkwX7_tries_0 ++ dktX7_tries_1
theorem dksX7_tries_0 : cX7_tries.data.toList.drop 0 = dktX7_tries_0 := by decide +kernel
theorem dksX7_tries_1 : cX7_tries.data.toList.drop 22 = dktX7_tries_1 := dk_seg dksX7_tries_0 22 rfl rfl
theorem dksX7_tries_2 : cX7_tries.data.toList.drop 44 = dktX7_tries_2 := dk_seg dksX7_tries_1 22 rfl rfl
theorem dksX7_tries_3 : cX7_tries.data.toList.drop 68 = dktX7_tries_3 := dk_seg dksX7_tries_2 24 rfl rfl
theorem dksX7_tries_4 : cX7_tries.data.toList.drop 92 = dktX7_tries_4 := dk_seg dksX7_tries_3 24 rfl rfl
theorem dksX7_tries_5 : cX7_tries.data.toList.drop 116 = dktX7_tries_5 := dk_seg dksX7_tries_4 24 rfl rfl
theorem dksX7_tries_6 : cX7_tries.data.toList.drop 139 = dktX7_tries_6 := dk_seg dksX7_tries_5 23 rfl rfl
theorem dX7_tries_0 : decode cX7_tries 0 = .ok (.aload_n 0, 1) := dk_42 (dk_at dksX7_tries_0 0 rfl rfl)
theorem dX7_tries_1 : decode cX7_tries 1 = .ok (.getfield 29, 3) := dk_180 0 29 (dk_at dksX7_tries_0 1 rfl rfl)
theorem dX7_tries_4 : decode cX7_tries 4 = .ok (.iconst (-1), 1) := dk_2 (dk_at dksX7_tries_0 4 rfl rfl)
theorem dX7_tries_5 : decode cX7_tries 5 = .ok (.if_icmp .eq 12, 3) := dk_159 0 12 (dk_at dksX7_tries_0 5 rfl rfl)
theorem dX7_tries_8 : decode cX7_tries 8 = .ok (.iload_n 3, 1) := dk_29 (dk_at dksX7_tries_0 8 rfl rfl)
theorem dX7_tries_9 : decode cX7_tries 9 = .ok (.aload_n 0, 1) := dk_42 (dk_at dksX7_tries_0 9 rfl rfl)
theorem dX7_tries_10 : decode cX7_tries 10 = .ok (.getfield 29, 3) := dk_180 0 29 (dk_at dksX7_tries_0 10 rfl rfl)
theorem dX7_tries_13 : decode cX7_tries 13 = .ok (.if_icmp .lt 4, 3) := dk_161 0 4 (dk_at dksX7_tries_0 13 rfl rfl)
theorem dX7_tries_16 : decode cX7_tries 16 = .ok (.return_, 1) := dk_177 (dk_at dksX7_tries_0 16 rfl rfl)
theorem dX7_tries_17 : decode cX7_tries 17 = .ok (.iload_n 1, 1) := dk_27 (dk_at dksX7_tries_0 17 rfl rfl)
theorem dX7_tries_18 : decode cX7_tries 18 = .ok (.aload_n 0, 1) := dk_42 (dk_at dksX7_tries_0 18 rfl rfl)
theorem dX7_tries_19 : decode cX7_tries 19 = .ok (.getfield 25, 3) := dk_180 0 25 (dk_at dksX7_tries_0 19 rfl rfl)
theorem dX7_tries_22 : decode cX7_tries 22 = .ok (.if_icmp .ne 53, 3) := dk_160 0 53 (dk_at dksX7_tries_1 0 rfl rfl)
theorem dX7_tries_25 : decode cX7_tries 25 = .ok (.aload_n 0, 1) := dk_42 (dk_at dksX7_tries_1 3 rfl rfl)
theorem dX7_tries_26 : decode cX7_tries 26 = .ok (.iload_n 3, 1) := dk_29 (dk_at dksX7_tries_1 4 rfl rfl)
theorem dX7_tries_27 : decode cX7_tries 27 = .ok (.putfield 29, 3) := dk_181 0 29 (dk_at dksX7_tries_1 5 rfl rfl)
theorem dX7_tries_30 : decode cX7_tries 30 = .ok (.aload_n 0, 1) := dk_42 (dk_at dksX7_tries_1 8 rfl rfl)
theorem dX7_tries_31 : decode cX7_tries 31 = .ok (.iconst 0, 1) := dk_3 (dk_at dksX7_tries_1 9 rfl rfl)
theorem dX7_tries_32 : decode cX7_tries 32 = .ok (.putfield 36, 3) := dk_181 0 36 (dk_at dksX7_tries_1 10 rfl rfl)
theorem dX7_tries_35 : decode cX7_tries 35 = .ok (.iconst 0, 1) := dk_3 (dk_at dksX7_tries_1 13 rfl rfl)
theorem dX7_tries_36 : decode cX7_tries 36 = .ok (.istore 4, 2) := dk_54 4 (dk_at dksX7_tries_1 14 rfl rfl)
theorem dX7_tries_38 : decode cX7_tries 38 = .ok (.iload 4, 2) := dk_21 4 (dk_at dksX7_tries_1 16 rfl rfl)
theorem dX7_tries_40 : decode cX7_tries 40 = .ok (.aload_n 0, 1) := dk_42 (dk_at dksX7_tries_1 18 rfl rfl)
theorem dX7_tries_41 : decode cX7_tries 41 = .ok (.getfield 25, 3) := dk_180 0 25 (dk_at dksX7_tries_1 19 rfl rfl)
theorem dX7_tries_44 : decode cX7_tries 44 = .ok (.if_icmp .ge 30, 3) := dk_162 0 30 (dk_at dksX7_tries_2 0 rfl rfl)
theorem dX7_tries_47 : decode cX7_tries 47 = .ok (.aload_n 0, 1) := dk_42 (dk_at dksX7_tries_2 3 rfl rfl)
theorem dX7_tries_48 : decode cX7_tries 48 = .ok (.bipush 10, 2) := dk_16 10 (dk_at dksX7_tries_2 4 rfl rfl)
theorem dX7_tries_50 : decode cX7_tries 50 = .ok (.aload_n 0, 1) := dk_42 (dk_at dksX7_tries_2 6 rfl rfl)
theorem dX7_tries_51 : decode cX7_tries 51 = .ok (.getfield 36, 3) := dk_180 0 36 (dk_at dksX7_tries_2 7 rfl rfl)
theorem dX7_tries_54 : decode cX7_tries 54 = .ok (.imul, 1) := dk_104 (dk_at dksX7_tries_2 10 rfl rfl)
theorem dX7_tries_55 : decode cX7_tries 55 = .ok (.aload_n 0, 1) := dk_42 (dk_at dksX7_tries_2 11 rfl rfl)
theorem dX7_tries_56 : decode cX7_tries 56 = .ok (.getfield 9, 3) := dk_180 0 9 (dk_at dksX7_tries_2 12 rfl rfl)
theorem dX7_tries_59 : decode cX7_tries 59 = .ok (.iload 4, 2) := dk_21 4 (dk_at dksX7_tries_2 15 rfl rfl)
theorem dX7_tries_61 : decode cX7_tries 61 = .ok (.iaload, 1) := dk_46 (dk_at dksX7_tries_2 17 rfl rfl)
theorem dX7_tries_62 : decode cX7_tries 62 = .ok (.iadd, 1) := dk_96 (dk_at dksX7_tries_2 18 rfl rfl)
theorem dX7_tries_63 : decode cX7_tries 63 = .ok (.iconst 1, 1) := dk_4 (dk_at dksX7_tries_2 19 rfl rfl)
theorem dX7_tries_64 : decode cX7_tries 64 = .ok (.iadd, 1) := dk_96 (dk_at dksX7_tries_2 20 rfl rfl)
theorem dX7_tries_65 : decode cX7_tries 65 = .ok (.putfield 36, 3) := dk_181 0 36 (dk_at dksX7_tries_2 21 rfl rfl)
theorem dX7_tries_68 : decode cX7_tries 68 = .ok (.iinc 4 1, 3) := dk_132 4 1 (dk_at dksX7_tries_3 0 rfl rfl)
theorem dX7_tries_71 : decode cX7_tries 71 = .ok (.goto (-33), 3) := dk_167 255 223 (dk_at dksX7_tries_3 3 rfl rfl)
theorem dX7_tries_74 : decode cX7_tries 74 = .ok (.return_, 1) := dk_177 (dk_at dksX7_tries_3 6 rfl rfl)
theorem dX7_tries_75 : decode cX7_tries 75 = .ok (.iconst 0, 1) := dk_3 (dk_at dksX7_tries_3 7 rfl rfl)
theorem dX7_tries_76 : decode cX7_tries 76 = .ok (.istore 4, 2) := dk_54 4 (dk_at dksX7_tries_3 8 rfl rfl)
theorem dX7_tries_78 : decode cX7_tries 78 = .ok (.iload 4, 2) := dk_21 4 (dk_at dksX7_tries_3 10 rfl rfl)
theorem dX7_tries_80 : decode cX7_tries 80 = .ok (.aload_n 0, 1) := dk_42 (dk_at dksX7_tries_3 12 rfl rfl)
theorem dX7_tries_81 : decode cX7_tries 81 = .ok (.getfield 25, 3) := dk_180 0 25 (dk_at dksX7_tries_3 13 rfl rfl)
theorem dX7_tries_84 : decode cX7_tries 84 = .ok (.if_icmp .ge 70, 3) := dk_162 0 70 (dk_at dksX7_tries_3 16 rfl rfl)
theorem dX7_tries_87 : decode cX7_tries 87 = .ok (.iload_n 2, 1) := dk_28 (dk_at dksX7_tries_3 19 rfl rfl)
theorem dX7_tries_88 : decode cX7_tries 88 = .ok (.iload 4, 2) := dk_21 4 (dk_at dksX7_tries_3 20 rfl rfl)
theorem dX7_tries_90 : decode cX7_tries 90 = .ok (.ishr, 1) := dk_122 (dk_at dksX7_tries_3 22 rfl rfl)
theorem dX7_tries_91 : decode cX7_tries 91 = .ok (.iconst 1, 1) := dk_4 (dk_at dksX7_tries_3 23 rfl rfl)
theorem dX7_tries_92 : decode cX7_tries 92 = .ok (.iand, 1) := dk_126 (dk_at dksX7_tries_4 0 rfl rfl)
theorem dX7_tries_93 : decode cX7_tries 93 = .ok (.iconst 1, 1) := dk_4 (dk_at dksX7_tries_4 1 rfl rfl)
theorem dX7_tries_94 : decode cX7_tries 94 = .ok (.if_icmp .ne 6, 3) := dk_160 0 6 (dk_at dksX7_tries_4 2 rfl rfl)
theorem dX7_tries_97 : decode cX7_tries 97 = .ok (.goto 51, 3) := dk_167 0 51 (dk_at dksX7_tries_4 5 rfl rfl)
theorem dX7_tries_100 : decode cX7_tries 100 = .ok (.aload_n 0, 1) := dk_42 (dk_at dksX7_tries_4 8 rfl rfl)
theorem dX7_tries_101 : decode cX7_tries 101 = .ok (.getfield 9, 3) := dk_180 0 9 (dk_at dksX7_tries_4 9 rfl rfl)
theorem dX7_tries_104 : decode cX7_tries 104 = .ok (.iload_n 1, 1) := dk_27 (dk_at dksX7_tries_4 12 rfl rfl)
theorem dX7_tries_105 : decode cX7_tries 105 = .ok (.iload 4, 2) := dk_21 4 (dk_at dksX7_tries_4 13 rfl rfl)
theorem dX7_tries_107 : decode cX7_tries 107 = .ok (.iastore, 1) := dk_79 (dk_at dksX7_tries_4 15 rfl rfl)
theorem dX7_tries_108 : decode cX7_tries 108 = .ok (.aload_n 0, 1) := dk_42 (dk_at dksX7_tries_4 16 rfl rfl)
theorem dX7_tries_109 : decode cX7_tries 109 = .ok (.iload_n 1, 1) := dk_27 (dk_at dksX7_tries_4 17 rfl rfl)
theorem dX7_tries_110 : decode cX7_tries 110 = .ok (.iconst 1, 1) := dk_4 (dk_at dksX7_tries_4 18 rfl rfl)
theorem dX7_tries_111 : decode cX7_tries 111 = .ok (.iadd, 1) := dk_96 (dk_at dksX7_tries_4 19 rfl rfl)
theorem dX7_tries_112 : decode cX7_tries 112 = .ok (.iload_n 2, 1) := dk_28 (dk_at dksX7_tries_4 20 rfl rfl)
theorem dX7_tries_113 : decode cX7_tries 113 = .ok (.iconst 1, 1) := dk_4 (dk_at dksX7_tries_4 21 rfl rfl)
theorem dX7_tries_114 : decode cX7_tries 114 = .ok (.iload 4, 2) := dk_21 4 (dk_at dksX7_tries_4 22 rfl rfl)
theorem dX7_tries_116 : decode cX7_tries 116 = .ok (.ishl, 1) := dk_120 (dk_at dksX7_tries_5 0 rfl rfl)
theorem dX7_tries_117 : decode cX7_tries 117 = .ok (.ior, 1) := dk_128 (dk_at dksX7_tries_5 1 rfl rfl)
theorem dX7_tries_118 : decode cX7_tries 118 = .ok (.iload_n 3, 1) := dk_29 (dk_at dksX7_tries_5 2 rfl rfl)
theorem dX7_tries_119 : decode cX7_tries 119 = .ok (.iload_n 1, 1) := dk_27 (dk_at dksX7_tries_5 3 rfl rfl)
theorem dX7_tries_120 : decode cX7_tries 120 = .ok (.ifCond .ne 7, 3) := dk_154 0 7 (dk_at dksX7_tries_5 4 rfl rfl)
theorem dX7_tries_123 : decode cX7_tries 123 = .ok (.iconst 0, 1) := dk_3 (dk_at dksX7_tries_5 7 rfl rfl)
theorem dX7_tries_124 : decode cX7_tries 124 = .ok (.goto 20, 3) := dk_167 0 20 (dk_at dksX7_tries_5 8 rfl rfl)
theorem dX7_tries_127 : decode cX7_tries 127 = .ok (.aload_n 0, 1) := dk_42 (dk_at dksX7_tries_5 11 rfl rfl)
theorem dX7_tries_128 : decode cX7_tries 128 = .ok (.getfield 25, 3) := dk_180 0 25 (dk_at dksX7_tries_5 12 rfl rfl)
theorem dX7_tries_131 : decode cX7_tries 131 = .ok (.aload_n 0, 1) := dk_42 (dk_at dksX7_tries_5 15 rfl rfl)
theorem dX7_tries_132 : decode cX7_tries 132 = .ok (.getfield 9, 3) := dk_180 0 9 (dk_at dksX7_tries_5 16 rfl rfl)
theorem dX7_tries_135 : decode cX7_tries 135 = .ok (.iload_n 1, 1) := dk_27 (dk_at dksX7_tries_5 19 rfl rfl)
theorem dX7_tries_136 : decode cX7_tries 136 = .ok (.iconst 1, 1) := dk_4 (dk_at dksX7_tries_5 20 rfl rfl)
theorem dX7_tries_137 : decode cX7_tries 137 = .ok (.isub, 1) := dk_100 (dk_at dksX7_tries_5 21 rfl rfl)
theorem dX7_tries_138 : decode cX7_tries 138 = .ok (.iaload, 1) := dk_46 (dk_at dksX7_tries_5 22 rfl rfl)
theorem dX7_tries_139 : decode cX7_tries 139 = .ok (.iload 4, 2) := dk_21 4 (dk_at dksX7_tries_6 0 rfl rfl)
theorem dX7_tries_141 : decode cX7_tries 141 = .ok (.invokestatic 39, 3) := dk_184 0 39 (dk_at dksX7_tries_6 2 rfl rfl)
theorem dX7_tries_144 : decode cX7_tries 144 = .ok (.iadd, 1) := dk_96 (dk_at dksX7_tries_6 5 rfl rfl)
theorem dX7_tries_145 : decode cX7_tries 145 = .ok (.invokevirtual 32, 3) := dk_182 0 32 (dk_at dksX7_tries_6 6 rfl rfl)
theorem dX7_tries_148 : decode cX7_tries 148 = .ok (.iinc 4 1, 3) := dk_132 4 1 (dk_at dksX7_tries_6 9 rfl rfl)
theorem dX7_tries_151 : decode cX7_tries 151 = .ok (.goto (-73), 3) := dk_167 255 183 (dk_at dksX7_tries_6 12 rfl rfl)
theorem dX7_tries_154 : decode cX7_tries 154 = .ok (.return_, 1) := dk_177 (dk_at dksX7_tries_6 15 rfl rfl)
abbrev cX7_lacks : ByteArray := prog_9_method_2_code
def yX7_lacks : MethodName := ⟨RX7, "lacks", "(III)I"⟩
def dkwX7_lacks_0 : List UInt8 := [27, 28, 100, 184, 0, 15, 62, 26, 5, 108, 29, 26, 29, 100, 184, 0, 21, 100, 172]
abbrev dktX7_lacks_0 : List UInt8 := dkwX7_lacks_0 ++ []
theorem dksX7_lacks_0 : cX7_lacks.data.toList.drop 0 = dktX7_lacks_0 := by decide +kernel
theorem dX7_lacks_0 : decode cX7_lacks 0 = .ok (.iload_n 1, 1) := dk_27 (dk_at dksX7_lacks_0 0 rfl rfl)
theorem dX7_lacks_1 : decode cX7_lacks 1 = .ok (.iload_n 2, 1) := dk_28 (dk_at dksX7_lacks_0 1 rfl rfl)
theorem dX7_lacks_2 : decode cX7_lacks 2 = .ok (.isub, 1) := dk_100 (dk_at dksX7_lacks_0 2 rfl rfl)
theorem dX7_lacks_3 : decode cX7_lacks 3 = .ok (.invokestatic 15, 3) := dk_184 0 15 (dk_at dksX7_lacks_0 3 rfl rfl)
theorem dX7_lacks_6 : decode cX7_lacks 6 = .ok (.istore_n 3, 1) := dk_62 (dk_at dksX7_lacks_0 6 rfl rfl)
theorem dX7_lacks_7 : decode cX7_lacks 7 = .ok (.iload_n 0, 1) := dk_26 (dk_at dksX7_lacks_0 7 rfl rfl)
theorem dX7_lacks_8 : decode cX7_lacks 8 = .ok (.iconst 2, 1) := dk_5 (dk_at dksX7_lacks_0 8 rfl rfl)
theorem dX7_lacks_9 : decode cX7_lacks 9 = .ok (.idiv, 1) := dk_108 (dk_at dksX7_lacks_0 9 rfl rfl)
theorem dX7_lacks_10 : decode cX7_lacks 10 = .ok (.iload_n 3, 1) := dk_29 (dk_at dksX7_lacks_0 10 rfl rfl)
theorem dX7_lacks_11 : decode cX7_lacks 11 = .ok (.iload_n 0, 1) := dk_26 (dk_at dksX7_lacks_0 11 rfl rfl)
theorem dX7_lacks_12 : decode cX7_lacks 12 = .ok (.iload_n 3, 1) := dk_29 (dk_at dksX7_lacks_0 12 rfl rfl)
theorem dX7_lacks_13 : decode cX7_lacks 13 = .ok (.isub, 1) := dk_100 (dk_at dksX7_lacks_0 13 rfl rfl)
theorem dX7_lacks_14 : decode cX7_lacks 14 = .ok (.invokestatic 21, 3) := dk_184 0 21 (dk_at dksX7_lacks_0 14 rfl rfl)
theorem dX7_lacks_17 : decode cX7_lacks 17 = .ok (.isub, 1) := dk_100 (dk_at dksX7_lacks_0 17 rfl rfl)
theorem dX7_lacks_18 : decode cX7_lacks 18 = .ok (.ireturn, 1) := dk_172 (dk_at dksX7_lacks_0 18 rfl rfl)
theorem q102 : (Jvm.Cond.initialized "RainWheel$Ring") ∈ lw_all := lw_g (lw_at lw_m1 7 rfl) rfl
theorem q306 : (Jvm.Cond.instantiable "RainWheel$Ring" (4 : Nat)) ∈ lw_all := lw_g (lw_at lw_m1 211 rfl) rfl
theorem q308 : (Jvm.Cond.instanceMethod ({ cls := "RainWheel$Ring", name := "<init>", desc := "()V" } : Jvm.MethodName)) ∈ lw_all := lw_g (lw_at lw_m1 213 rfl) rfl
theorem q309 : (Jvm.Cond.code ({ cls := "RainWheel$Ring", name := "<init>", desc := "()V" } : Jvm.MethodName) prog_9_method_1_code (1 : Nat) (Option.none : Option Jvm.ClassFile.FieldType)) ∈ lw_all := lw_g (lw_at lw_m1 214 rfl) rfl
theorem q310 : (Jvm.Cond.methodLink "RainWheel$Ring" (3 : Nat) ({ cls := "java/lang/Object", name := "<init>", desc := "()V" } : Jvm.MethodName)) ∈ lw_all := lw_g (lw_at lw_m1 215 rfl) rfl
theorem q311 : (Jvm.Cond.fieldLink "RainWheel$Ring" (9 : Nat) "RainWheel$Ring" "row" "[I") ∈ lw_all := lw_g (lw_at lw_m1 216 rfl) rfl
theorem q312 : (Jvm.Cond.fieldLink "RainWheel$Ring" (25 : Nat) "RainWheel$Ring" "many" "I") ∈ lw_all := lw_g (lw_at lw_m1 217 rfl) rfl
theorem q313 : (Jvm.Cond.fieldLink "RainWheel$Ring" (29 : Nat) "RainWheel$Ring" "least" "I") ∈ lw_all := lw_g (lw_at lw_m1 218 rfl) rfl
theorem q315 : (Jvm.Cond.fieldLink "RainWheel$Ring" (36 : Nat) "RainWheel$Ring" "digits" "I") ∈ lw_all := lw_g (lw_at lw_m1 220 rfl) rfl
theorem q317 : (Jvm.Cond.laysFinal "RainWheel$Ring" "RainWheel$Ring" "row" "[I") ∈ lw_all := lw_g (lw_at lw_m1 222 rfl) rfl
theorem q318 : (Jvm.Cond.soleField "RainWheel$Ring" "row") ∈ lw_all := lw_g (lw_at lw_m1 223 rfl) rfl
theorem q319 : (Jvm.Cond.lays "RainWheel$Ring" "RainWheel$Ring" "many" "I") ∈ lw_all := lw_g (lw_at lw_m1 224 rfl) rfl
theorem q320 : (Jvm.Cond.soleField "RainWheel$Ring" "many") ∈ lw_all := lw_g (lw_at lw_m1 225 rfl) rfl
theorem q321 : (Jvm.Cond.lays "RainWheel$Ring" "RainWheel$Ring" "least" "I") ∈ lw_all := lw_g (lw_at lw_m1 226 rfl) rfl
theorem q322 : (Jvm.Cond.soleField "RainWheel$Ring" "least") ∈ lw_all := lw_g (lw_at lw_m1 227 rfl) rfl
theorem q323 : (Jvm.Cond.lays "RainWheel$Ring" "RainWheel$Ring" "digits" "I") ∈ lw_all := lw_g (lw_at lw_m1 228 rfl) rfl
theorem q324 : (Jvm.Cond.soleField "RainWheel$Ring" "digits") ∈ lw_all := lw_g (lw_at lw_m1 229 rfl) rfl
theorem q325 : (Jvm.Cond.superclass "RainWheel$Ring" "java/lang/Object") ∈ lw_all := lw_g (lw_at lw_m1 230 rfl) rfl
theorem q1408 : (Jvm.Cond.instanceMethod ({ cls := "RainWheel$Ring", name := "finds", desc := "(I)V" } : Jvm.MethodName)) ∈ lw_all := lw_g (lw_at lw_m6 113 rfl) rfl
theorem q1409 : (Jvm.Cond.selects "RainWheel$Ring" ({ cls := "RainWheel$Ring", name := "finds", desc := "(I)V" } : Jvm.MethodName) ({ cls := "RainWheel$Ring", name := "finds", desc := "(I)V" } : Jvm.MethodName)) ∈ lw_all := lw_g (lw_at lw_m6 114 rfl) rfl
theorem q1410 : (Jvm.Cond.code ({ cls := "RainWheel$Ring", name := "finds", desc := "(I)V" } : Jvm.MethodName) prog_9_method_3_code (2 : Nat) (Option.none : Option Jvm.ClassFile.FieldType)) ∈ lw_all := lw_g (lw_at lw_m6 115 rfl) rfl
theorem q1411 : (Jvm.Cond.methodLink "RainWheel$Ring" (32 : Nat) ({ cls := "RainWheel$Ring", name := "tries", desc := "(III)V" } : Jvm.MethodName)) ∈ lw_all := lw_g (lw_at lw_m6 116 rfl) rfl
theorem q1412 : (Jvm.Cond.privateMethod ({ cls := "RainWheel$Ring", name := "tries", desc := "(III)V" } : Jvm.MethodName)) ∈ lw_tbl := lw_at lw_m6 117 rfl
theorem q1413 : (Jvm.Cond.instanceMethod ({ cls := "RainWheel$Ring", name := "tries", desc := "(III)V" } : Jvm.MethodName)) ∈ lw_all := lw_g (lw_at lw_m6 118 rfl) rfl
theorem q1414 : (Jvm.Cond.code ({ cls := "RainWheel$Ring", name := "tries", desc := "(III)V" } : Jvm.MethodName) prog_9_method_4_code (5 : Nat) (Option.none : Option Jvm.ClassFile.FieldType)) ∈ lw_all := lw_g (lw_at lw_m6 119 rfl) rfl
theorem q1415 : (Jvm.Cond.methodLink "RainWheel$Ring" (39 : Nat) ({ cls := "RainWheel$Ring", name := "lacks", desc := "(III)I" } : Jvm.MethodName)) ∈ lw_all := lw_g (lw_at lw_m6 120 rfl) rfl
theorem q1416 : (Jvm.Cond.static ({ cls := "RainWheel$Ring", name := "lacks", desc := "(III)I" } : Jvm.MethodName)) ∈ lw_all := lw_g (lw_at lw_m6 121 rfl) rfl
theorem q1417 : (Jvm.Cond.code ({ cls := "RainWheel$Ring", name := "lacks", desc := "(III)I" } : Jvm.MethodName) prog_9_method_2_code (4 : Nat) (Option.some Jvm.ClassFile.FieldType.int)) ∈ lw_all := lw_g (lw_at lw_m6 122 rfl) rfl
theorem q1418 : (Jvm.Cond.methodLink "RainWheel$Ring" (15 : Nat) ({ cls := "java/lang/Math", name := "abs", desc := "(I)I" } : Jvm.MethodName)) ∈ lw_all := lw_g (lw_at lw_m6 123 rfl) rfl
theorem q1419 : (Jvm.Cond.methodLink "RainWheel$Ring" (21 : Nat) ({ cls := "java/lang/Math", name := "min", desc := "(II)I" } : Jvm.MethodName)) ∈ lw_all := lw_g (lw_at lw_m6 124 rfl) rfl
theorem q2257 : (Jvm.Cond.castable "RainWheel$Ring" "java/lang/Object") ∈ lw_tbl := lw_at lw_m10 2 rfl

abbrev cX8_init : ByteArray := prog_6_method_1_code
def yX8_init : MethodName := ⟨RX8, "<init>", "()V"⟩
def dkwX8_init_1 : List UInt8 := [188, 10, 181, 0, 18, 42, 16, 100, 188, 10, 181, 0, 21, 177]
abbrev dktX8_init_1 : List UInt8 := dkwX8_init_1 ++ []
def dkwX8_init_0 : List UInt8 := [42, 183, 0, 3, 42, 16, 100, 188, 10, 181, 0, 9, 42, 16, 100, 188, 10, 181, 0, 15, 42, 16, 100]
abbrev dktX8_init_0 : List UInt8 := dkwX8_init_0 ++ dktX8_init_1
theorem dksX8_init_0 : cX8_init.data.toList.drop 0 = dktX8_init_0 := by decide +kernel
theorem dksX8_init_1 : cX8_init.data.toList.drop 23 = dktX8_init_1 := dk_seg dksX8_init_0 23 rfl rfl
theorem dX8_init_0 : decode cX8_init 0 = .ok (.aload_n 0, 1) := dk_42 (dk_at dksX8_init_0 0 rfl rfl)
theorem dX8_init_1 : decode cX8_init 1 = .ok (.invokespecial 3, 3) := dk_183 0 3 (dk_at dksX8_init_0 1 rfl rfl)
theorem dX8_init_4 : decode cX8_init 4 = .ok (.aload_n 0, 1) := dk_42 (dk_at dksX8_init_0 4 rfl rfl)
theorem dX8_init_5 : decode cX8_init 5 = .ok (.bipush 100, 2) := dk_16 100 (dk_at dksX8_init_0 5 rfl rfl)
theorem dX8_init_7 : decode cX8_init 7 = .ok (.newarray .int, 2) := dk_188_10 (dk_at dksX8_init_0 7 rfl rfl)
theorem dX8_init_9 : decode cX8_init 9 = .ok (.putfield 9, 3) := dk_181 0 9 (dk_at dksX8_init_0 9 rfl rfl)
theorem dX8_init_12 : decode cX8_init 12 = .ok (.aload_n 0, 1) := dk_42 (dk_at dksX8_init_0 12 rfl rfl)
theorem dX8_init_13 : decode cX8_init 13 = .ok (.bipush 100, 2) := dk_16 100 (dk_at dksX8_init_0 13 rfl rfl)
theorem dX8_init_15 : decode cX8_init 15 = .ok (.newarray .int, 2) := dk_188_10 (dk_at dksX8_init_0 15 rfl rfl)
theorem dX8_init_17 : decode cX8_init 17 = .ok (.putfield 15, 3) := dk_181 0 15 (dk_at dksX8_init_0 17 rfl rfl)
theorem dX8_init_20 : decode cX8_init 20 = .ok (.aload_n 0, 1) := dk_42 (dk_at dksX8_init_0 20 rfl rfl)
theorem dX8_init_21 : decode cX8_init 21 = .ok (.bipush 100, 2) := dk_16 100 (dk_at dksX8_init_0 21 rfl rfl)
theorem dX8_init_23 : decode cX8_init 23 = .ok (.newarray .int, 2) := dk_188_10 (dk_at dksX8_init_1 0 rfl rfl)
theorem dX8_init_25 : decode cX8_init 25 = .ok (.putfield 18, 3) := dk_181 0 18 (dk_at dksX8_init_1 2 rfl rfl)
theorem dX8_init_28 : decode cX8_init 28 = .ok (.aload_n 0, 1) := dk_42 (dk_at dksX8_init_1 5 rfl rfl)
theorem dX8_init_29 : decode cX8_init 29 = .ok (.bipush 100, 2) := dk_16 100 (dk_at dksX8_init_1 6 rfl rfl)
theorem dX8_init_31 : decode cX8_init 31 = .ok (.newarray .int, 2) := dk_188_10 (dk_at dksX8_init_1 8 rfl rfl)
theorem dX8_init_33 : decode cX8_init 33 = .ok (.putfield 21, 3) := dk_181 0 21 (dk_at dksX8_init_1 10 rfl rfl)
theorem dX8_init_36 : decode cX8_init 36 = .ok (.return_, 1) := dk_177 (dk_at dksX8_init_1 13 rfl rfl)
abbrev cX8_lays : ByteArray := prog_6_method_2_code
def yX8_lays : MethodName := ⟨RX8, "lays", "(II)V"⟩
def dkwX8_lays_4 : List UInt8 := [184, 0, 28, 132, 3, 255, 167, 255, 187, 177]
abbrev dktX8_lays_4 : List UInt8 := dkwX8_lays_4 ++ []
def dkwX8_lays_3 : List UInt8 := [3, 42, 180, 0, 9, 3, 16, 100, 184, 0, 28, 42, 180, 0, 21, 3, 42, 180, 0, 15, 3, 16, 100]
abbrev dktX8_lays_3 : List UInt8 := dkwX8_lays_3 ++ dktX8_lays_4
def dkwX8_lays_2 : List UInt8 := [29, 28, 112, 154, 0, 7, 4, 167, 0, 4, 3, 182, 0, 24, 132, 4, 255, 167, 255, 231, 42, 180, 0, 18]
abbrev dktX8_lays_2 : List UInt8 := dkwX8_lays_2 ++ dktX8_lays_3
def dkwX8_lays_1 : List UInt8 := [132, 3, 1, 167, 255, 233, 27, 62, 29, 158, 0, 71, 16, 99, 54, 4, 21, 4, 155, 0, 26, 42, 21, 4]
abbrev dktX8_lays_1 : List UInt8 := dkwX8_lays_1 ++ dktX8_lays_2
def dkwX8_lays_0 : List UInt8 := [3, 62, 29, 16, 99, 163, 0, 23, 42, 180, 0, 9, 29, 3, 79, 42, 180, 0, 15, 29, 3, 79]
abbrev dktX8_lays_0 : List UInt8 := dkwX8_lays_0 ++ dktX8_lays_1
theorem dksX8_lays_0 : cX8_lays.data.toList.drop 0 = dktX8_lays_0 := by decide +kernel
theorem dksX8_lays_1 : cX8_lays.data.toList.drop 22 = dktX8_lays_1 := dk_seg dksX8_lays_0 22 rfl rfl
theorem dksX8_lays_2 : cX8_lays.data.toList.drop 46 = dktX8_lays_2 := dk_seg dksX8_lays_1 24 rfl rfl
theorem dksX8_lays_3 : cX8_lays.data.toList.drop 70 = dktX8_lays_3 := dk_seg dksX8_lays_2 24 rfl rfl
theorem dksX8_lays_4 : cX8_lays.data.toList.drop 93 = dktX8_lays_4 := dk_seg dksX8_lays_3 23 rfl rfl
theorem dX8_lays_0 : decode cX8_lays 0 = .ok (.iconst 0, 1) := dk_3 (dk_at dksX8_lays_0 0 rfl rfl)
theorem dX8_lays_1 : decode cX8_lays 1 = .ok (.istore_n 3, 1) := dk_62 (dk_at dksX8_lays_0 1 rfl rfl)
theorem dX8_lays_2 : decode cX8_lays 2 = .ok (.iload_n 3, 1) := dk_29 (dk_at dksX8_lays_0 2 rfl rfl)
theorem dX8_lays_3 : decode cX8_lays 3 = .ok (.bipush 99, 2) := dk_16 99 (dk_at dksX8_lays_0 3 rfl rfl)
theorem dX8_lays_5 : decode cX8_lays 5 = .ok (.if_icmp .gt 23, 3) := dk_163 0 23 (dk_at dksX8_lays_0 5 rfl rfl)
theorem dX8_lays_8 : decode cX8_lays 8 = .ok (.aload_n 0, 1) := dk_42 (dk_at dksX8_lays_0 8 rfl rfl)
theorem dX8_lays_9 : decode cX8_lays 9 = .ok (.getfield 9, 3) := dk_180 0 9 (dk_at dksX8_lays_0 9 rfl rfl)
theorem dX8_lays_12 : decode cX8_lays 12 = .ok (.iload_n 3, 1) := dk_29 (dk_at dksX8_lays_0 12 rfl rfl)
theorem dX8_lays_13 : decode cX8_lays 13 = .ok (.iconst 0, 1) := dk_3 (dk_at dksX8_lays_0 13 rfl rfl)
theorem dX8_lays_14 : decode cX8_lays 14 = .ok (.iastore, 1) := dk_79 (dk_at dksX8_lays_0 14 rfl rfl)
theorem dX8_lays_15 : decode cX8_lays 15 = .ok (.aload_n 0, 1) := dk_42 (dk_at dksX8_lays_0 15 rfl rfl)
theorem dX8_lays_16 : decode cX8_lays 16 = .ok (.getfield 15, 3) := dk_180 0 15 (dk_at dksX8_lays_0 16 rfl rfl)
theorem dX8_lays_19 : decode cX8_lays 19 = .ok (.iload_n 3, 1) := dk_29 (dk_at dksX8_lays_0 19 rfl rfl)
theorem dX8_lays_20 : decode cX8_lays 20 = .ok (.iconst 0, 1) := dk_3 (dk_at dksX8_lays_0 20 rfl rfl)
theorem dX8_lays_21 : decode cX8_lays 21 = .ok (.iastore, 1) := dk_79 (dk_at dksX8_lays_0 21 rfl rfl)
theorem dX8_lays_22 : decode cX8_lays 22 = .ok (.iinc 3 1, 3) := dk_132 3 1 (dk_at dksX8_lays_1 0 rfl rfl)
theorem dX8_lays_25 : decode cX8_lays 25 = .ok (.goto (-23), 3) := dk_167 255 233 (dk_at dksX8_lays_1 3 rfl rfl)
theorem dX8_lays_28 : decode cX8_lays 28 = .ok (.iload_n 1, 1) := dk_27 (dk_at dksX8_lays_1 6 rfl rfl)
theorem dX8_lays_29 : decode cX8_lays 29 = .ok (.istore_n 3, 1) := dk_62 (dk_at dksX8_lays_1 7 rfl rfl)
theorem dX8_lays_30 : decode cX8_lays 30 = .ok (.iload_n 3, 1) := dk_29 (dk_at dksX8_lays_1 8 rfl rfl)
theorem dX8_lays_31 : decode cX8_lays 31 = .ok (.ifCond .le 71, 3) := dk_158 0 71 (dk_at dksX8_lays_1 9 rfl rfl)
theorem dX8_lays_34 : decode cX8_lays 34 = .ok (.bipush 99, 2) := dk_16 99 (dk_at dksX8_lays_1 12 rfl rfl)
theorem dX8_lays_36 : decode cX8_lays 36 = .ok (.istore 4, 2) := dk_54 4 (dk_at dksX8_lays_1 14 rfl rfl)
theorem dX8_lays_38 : decode cX8_lays 38 = .ok (.iload 4, 2) := dk_21 4 (dk_at dksX8_lays_1 16 rfl rfl)
theorem dX8_lays_40 : decode cX8_lays 40 = .ok (.ifCond .lt 26, 3) := dk_155 0 26 (dk_at dksX8_lays_1 18 rfl rfl)
theorem dX8_lays_43 : decode cX8_lays 43 = .ok (.aload_n 0, 1) := dk_42 (dk_at dksX8_lays_1 21 rfl rfl)
theorem dX8_lays_44 : decode cX8_lays 44 = .ok (.iload 4, 2) := dk_21 4 (dk_at dksX8_lays_1 22 rfl rfl)
theorem dX8_lays_46 : decode cX8_lays 46 = .ok (.iload_n 3, 1) := dk_29 (dk_at dksX8_lays_2 0 rfl rfl)
theorem dX8_lays_47 : decode cX8_lays 47 = .ok (.iload_n 2, 1) := dk_28 (dk_at dksX8_lays_2 1 rfl rfl)
theorem dX8_lays_48 : decode cX8_lays 48 = .ok (.irem, 1) := dk_112 (dk_at dksX8_lays_2 2 rfl rfl)
theorem dX8_lays_49 : decode cX8_lays 49 = .ok (.ifCond .ne 7, 3) := dk_154 0 7 (dk_at dksX8_lays_2 3 rfl rfl)
theorem dX8_lays_52 : decode cX8_lays 52 = .ok (.iconst 1, 1) := dk_4 (dk_at dksX8_lays_2 6 rfl rfl)
theorem dX8_lays_53 : decode cX8_lays 53 = .ok (.goto 4, 3) := dk_167 0 4 (dk_at dksX8_lays_2 7 rfl rfl)
theorem dX8_lays_56 : decode cX8_lays 56 = .ok (.iconst 0, 1) := dk_3 (dk_at dksX8_lays_2 10 rfl rfl)
theorem dX8_lays_57 : decode cX8_lays 57 = .ok (.invokevirtual 24, 3) := dk_182 0 24 (dk_at dksX8_lays_2 11 rfl rfl)
theorem dX8_lays_60 : decode cX8_lays 60 = .ok (.iinc 4 (-1), 3) := dk_132 4 255 (dk_at dksX8_lays_2 14 rfl rfl)
theorem dX8_lays_63 : decode cX8_lays 63 = .ok (.goto (-25), 3) := dk_167 255 231 (dk_at dksX8_lays_2 17 rfl rfl)
theorem dX8_lays_66 : decode cX8_lays 66 = .ok (.aload_n 0, 1) := dk_42 (dk_at dksX8_lays_2 20 rfl rfl)
theorem dX8_lays_67 : decode cX8_lays 67 = .ok (.getfield 18, 3) := dk_180 0 18 (dk_at dksX8_lays_2 21 rfl rfl)
theorem dX8_lays_70 : decode cX8_lays 70 = .ok (.iconst 0, 1) := dk_3 (dk_at dksX8_lays_3 0 rfl rfl)
theorem dX8_lays_71 : decode cX8_lays 71 = .ok (.aload_n 0, 1) := dk_42 (dk_at dksX8_lays_3 1 rfl rfl)
theorem dX8_lays_72 : decode cX8_lays 72 = .ok (.getfield 9, 3) := dk_180 0 9 (dk_at dksX8_lays_3 2 rfl rfl)
theorem dX8_lays_75 : decode cX8_lays 75 = .ok (.iconst 0, 1) := dk_3 (dk_at dksX8_lays_3 5 rfl rfl)
theorem dX8_lays_76 : decode cX8_lays 76 = .ok (.bipush 100, 2) := dk_16 100 (dk_at dksX8_lays_3 6 rfl rfl)
theorem dX8_lays_78 : decode cX8_lays 78 = .ok (.invokestatic 28, 3) := dk_184 0 28 (dk_at dksX8_lays_3 8 rfl rfl)
theorem dX8_lays_81 : decode cX8_lays 81 = .ok (.aload_n 0, 1) := dk_42 (dk_at dksX8_lays_3 11 rfl rfl)
theorem dX8_lays_82 : decode cX8_lays 82 = .ok (.getfield 21, 3) := dk_180 0 21 (dk_at dksX8_lays_3 12 rfl rfl)
theorem dX8_lays_85 : decode cX8_lays 85 = .ok (.iconst 0, 1) := dk_3 (dk_at dksX8_lays_3 15 rfl rfl)
theorem dX8_lays_86 : decode cX8_lays 86 = .ok (.aload_n 0, 1) := dk_42 (dk_at dksX8_lays_3 16 rfl rfl)
theorem dX8_lays_87 : decode cX8_lays 87 = .ok (.getfield 15, 3) := dk_180 0 15 (dk_at dksX8_lays_3 17 rfl rfl)
theorem dX8_lays_90 : decode cX8_lays 90 = .ok (.iconst 0, 1) := dk_3 (dk_at dksX8_lays_3 20 rfl rfl)
theorem dX8_lays_91 : decode cX8_lays 91 = .ok (.bipush 100, 2) := dk_16 100 (dk_at dksX8_lays_3 21 rfl rfl)
theorem dX8_lays_93 : decode cX8_lays 93 = .ok (.invokestatic 28, 3) := dk_184 0 28 (dk_at dksX8_lays_4 0 rfl rfl)
theorem dX8_lays_96 : decode cX8_lays 96 = .ok (.iinc 3 (-1), 3) := dk_132 3 255 (dk_at dksX8_lays_4 3 rfl rfl)
theorem dX8_lays_99 : decode cX8_lays 99 = .ok (.goto (-69), 3) := dk_167 255 187 (dk_at dksX8_lays_4 6 rfl rfl)
theorem dX8_lays_102 : decode cX8_lays 102 = .ok (.return_, 1) := dk_177 (dk_at dksX8_lays_4 9 rfl rfl)
abbrev cX8_asks : ByteArray := prog_6_method_3_code
def yX8_asks : MethodName := ⟨RX8, "asks", "(IZ)V"⟩
def dkwX8_asks_6 : List UInt8 := [167, 255, 126, 42, 180, 0, 18, 27, 29, 79, 42, 180, 0, 21, 27, 21, 4, 79, 177]
abbrev dktX8_asks_6 : List UInt8 := dkwX8_asks_6 ++ []
def dkwX8_asks_5 : List UInt8 := [160, 0, 13, 21, 9, 21, 4, 161, 0, 6, 167, 0, 10, 21, 8, 62, 21, 9, 54, 4, 132, 5, 1]
abbrev dktX8_asks_5 : List UInt8 := dkwX8_asks_5 ++ dktX8_asks_6
def dkwX8_asks_4 : List UInt8 := [180, 0, 15, 21, 7, 46, 96, 54, 9, 29, 2, 159, 0, 25, 21, 8, 29, 163, 0, 26, 21, 8, 29]
abbrev dktX8_asks_4 : List UInt8 := dkwX8_asks_4 ++ dktX8_asks_5
def dkwX8_asks_3 : List UInt8 := [184, 0, 40, 16, 9, 96, 16, 10, 108, 96, 42, 180, 0, 9, 21, 7, 46, 96, 54, 8, 21, 5, 42]
abbrev dktX8_asks_3 : List UInt8 := dkwX8_asks_3 ++ dktX8_asks_4
def dkwX8_asks_2 : List UInt8 := [184, 0, 40, 167, 0, 5, 21, 6, 54, 7, 7, 21, 5, 104, 5, 96, 3, 16, 30, 21, 6, 100]
abbrev dktX8_asks_2 : List UInt8 := dkwX8_asks_2 ++ dktX8_asks_3
def dkwX8_asks_1 : List UInt8 := [184, 0, 34, 54, 6, 21, 6, 8, 162, 0, 6, 167, 0, 100, 28, 153, 0, 14, 3, 21, 6, 4, 100]
abbrev dktX8_asks_1 : List UInt8 := dkwX8_asks_1 ++ dktX8_asks_2
def dkwX8_asks_0 : List UInt8 := [2, 62, 3, 54, 4, 3, 54, 5, 21, 5, 16, 10, 163, 0, 129, 16, 99, 27, 16, 10, 21, 5, 104, 96]
abbrev dktX8_asks_0 : List UInt8 := dkwX8_asks_0 ++ dktX8_asks_1
theorem dksX8_asks_0 : cX8_asks.data.toList.drop 0 = dktX8_asks_0 := by decide +kernel
theorem dksX8_asks_1 : cX8_asks.data.toList.drop 24 = dktX8_asks_1 := dk_seg dksX8_asks_0 24 rfl rfl
theorem dksX8_asks_2 : cX8_asks.data.toList.drop 47 = dktX8_asks_2 := dk_seg dksX8_asks_1 23 rfl rfl
theorem dksX8_asks_3 : cX8_asks.data.toList.drop 69 = dktX8_asks_3 := dk_seg dksX8_asks_2 22 rfl rfl
theorem dksX8_asks_4 : cX8_asks.data.toList.drop 92 = dktX8_asks_4 := dk_seg dksX8_asks_3 23 rfl rfl
theorem dksX8_asks_5 : cX8_asks.data.toList.drop 115 = dktX8_asks_5 := dk_seg dksX8_asks_4 23 rfl rfl
theorem dksX8_asks_6 : cX8_asks.data.toList.drop 138 = dktX8_asks_6 := dk_seg dksX8_asks_5 23 rfl rfl
theorem dX8_asks_0 : decode cX8_asks 0 = .ok (.iconst (-1), 1) := dk_2 (dk_at dksX8_asks_0 0 rfl rfl)
theorem dX8_asks_1 : decode cX8_asks 1 = .ok (.istore_n 3, 1) := dk_62 (dk_at dksX8_asks_0 1 rfl rfl)
theorem dX8_asks_2 : decode cX8_asks 2 = .ok (.iconst 0, 1) := dk_3 (dk_at dksX8_asks_0 2 rfl rfl)
theorem dX8_asks_3 : decode cX8_asks 3 = .ok (.istore 4, 2) := dk_54 4 (dk_at dksX8_asks_0 3 rfl rfl)
theorem dX8_asks_5 : decode cX8_asks 5 = .ok (.iconst 0, 1) := dk_3 (dk_at dksX8_asks_0 5 rfl rfl)
theorem dX8_asks_6 : decode cX8_asks 6 = .ok (.istore 5, 2) := dk_54 5 (dk_at dksX8_asks_0 6 rfl rfl)
theorem dX8_asks_8 : decode cX8_asks 8 = .ok (.iload 5, 2) := dk_21 5 (dk_at dksX8_asks_0 8 rfl rfl)
theorem dX8_asks_10 : decode cX8_asks 10 = .ok (.bipush 10, 2) := dk_16 10 (dk_at dksX8_asks_0 10 rfl rfl)
theorem dX8_asks_12 : decode cX8_asks 12 = .ok (.if_icmp .gt 129, 3) := dk_163 0 129 (dk_at dksX8_asks_0 12 rfl rfl)
theorem dX8_asks_15 : decode cX8_asks 15 = .ok (.bipush 99, 2) := dk_16 99 (dk_at dksX8_asks_0 15 rfl rfl)
theorem dX8_asks_17 : decode cX8_asks 17 = .ok (.iload_n 1, 1) := dk_27 (dk_at dksX8_asks_0 17 rfl rfl)
theorem dX8_asks_18 : decode cX8_asks 18 = .ok (.bipush 10, 2) := dk_16 10 (dk_at dksX8_asks_0 18 rfl rfl)
theorem dX8_asks_20 : decode cX8_asks 20 = .ok (.iload 5, 2) := dk_21 5 (dk_at dksX8_asks_0 20 rfl rfl)
theorem dX8_asks_22 : decode cX8_asks 22 = .ok (.imul, 1) := dk_104 (dk_at dksX8_asks_0 22 rfl rfl)
theorem dX8_asks_23 : decode cX8_asks 23 = .ok (.iadd, 1) := dk_96 (dk_at dksX8_asks_0 23 rfl rfl)
theorem dX8_asks_24 : decode cX8_asks 24 = .ok (.invokestatic 34, 3) := dk_184 0 34 (dk_at dksX8_asks_1 0 rfl rfl)
theorem dX8_asks_27 : decode cX8_asks 27 = .ok (.istore 6, 2) := dk_54 6 (dk_at dksX8_asks_1 3 rfl rfl)
theorem dX8_asks_29 : decode cX8_asks 29 = .ok (.iload 6, 2) := dk_21 6 (dk_at dksX8_asks_1 5 rfl rfl)
theorem dX8_asks_31 : decode cX8_asks 31 = .ok (.iconst 5, 1) := dk_8 (dk_at dksX8_asks_1 7 rfl rfl)
theorem dX8_asks_32 : decode cX8_asks 32 = .ok (.if_icmp .ge 6, 3) := dk_162 0 6 (dk_at dksX8_asks_1 8 rfl rfl)
theorem dX8_asks_35 : decode cX8_asks 35 = .ok (.goto 100, 3) := dk_167 0 100 (dk_at dksX8_asks_1 11 rfl rfl)
theorem dX8_asks_38 : decode cX8_asks 38 = .ok (.iload_n 2, 1) := dk_28 (dk_at dksX8_asks_1 14 rfl rfl)
theorem dX8_asks_39 : decode cX8_asks 39 = .ok (.ifCond .eq 14, 3) := dk_153 0 14 (dk_at dksX8_asks_1 15 rfl rfl)
theorem dX8_asks_42 : decode cX8_asks 42 = .ok (.iconst 0, 1) := dk_3 (dk_at dksX8_asks_1 18 rfl rfl)
theorem dX8_asks_43 : decode cX8_asks 43 = .ok (.iload 6, 2) := dk_21 6 (dk_at dksX8_asks_1 19 rfl rfl)
theorem dX8_asks_45 : decode cX8_asks 45 = .ok (.iconst 1, 1) := dk_4 (dk_at dksX8_asks_1 21 rfl rfl)
theorem dX8_asks_46 : decode cX8_asks 46 = .ok (.isub, 1) := dk_100 (dk_at dksX8_asks_1 22 rfl rfl)
theorem dX8_asks_47 : decode cX8_asks 47 = .ok (.invokestatic 40, 3) := dk_184 0 40 (dk_at dksX8_asks_2 0 rfl rfl)
theorem dX8_asks_50 : decode cX8_asks 50 = .ok (.goto 5, 3) := dk_167 0 5 (dk_at dksX8_asks_2 3 rfl rfl)
theorem dX8_asks_53 : decode cX8_asks 53 = .ok (.iload 6, 2) := dk_21 6 (dk_at dksX8_asks_2 6 rfl rfl)
theorem dX8_asks_55 : decode cX8_asks 55 = .ok (.istore 7, 2) := dk_54 7 (dk_at dksX8_asks_2 8 rfl rfl)
theorem dX8_asks_57 : decode cX8_asks 57 = .ok (.iconst 4, 1) := dk_7 (dk_at dksX8_asks_2 10 rfl rfl)
theorem dX8_asks_58 : decode cX8_asks 58 = .ok (.iload 5, 2) := dk_21 5 (dk_at dksX8_asks_2 11 rfl rfl)
theorem dX8_asks_60 : decode cX8_asks 60 = .ok (.imul, 1) := dk_104 (dk_at dksX8_asks_2 13 rfl rfl)
theorem dX8_asks_61 : decode cX8_asks 61 = .ok (.iconst 2, 1) := dk_5 (dk_at dksX8_asks_2 14 rfl rfl)
theorem dX8_asks_62 : decode cX8_asks 62 = .ok (.iadd, 1) := dk_96 (dk_at dksX8_asks_2 15 rfl rfl)
theorem dX8_asks_63 : decode cX8_asks 63 = .ok (.iconst 0, 1) := dk_3 (dk_at dksX8_asks_2 16 rfl rfl)
theorem dX8_asks_64 : decode cX8_asks 64 = .ok (.bipush 30, 2) := dk_16 30 (dk_at dksX8_asks_2 17 rfl rfl)
theorem dX8_asks_66 : decode cX8_asks 66 = .ok (.iload 6, 2) := dk_21 6 (dk_at dksX8_asks_2 19 rfl rfl)
theorem dX8_asks_68 : decode cX8_asks 68 = .ok (.isub, 1) := dk_100 (dk_at dksX8_asks_2 21 rfl rfl)
theorem dX8_asks_69 : decode cX8_asks 69 = .ok (.invokestatic 40, 3) := dk_184 0 40 (dk_at dksX8_asks_3 0 rfl rfl)
theorem dX8_asks_72 : decode cX8_asks 72 = .ok (.bipush 9, 2) := dk_16 9 (dk_at dksX8_asks_3 3 rfl rfl)
theorem dX8_asks_74 : decode cX8_asks 74 = .ok (.iadd, 1) := dk_96 (dk_at dksX8_asks_3 5 rfl rfl)
theorem dX8_asks_75 : decode cX8_asks 75 = .ok (.bipush 10, 2) := dk_16 10 (dk_at dksX8_asks_3 6 rfl rfl)
theorem dX8_asks_77 : decode cX8_asks 77 = .ok (.idiv, 1) := dk_108 (dk_at dksX8_asks_3 8 rfl rfl)
theorem dX8_asks_78 : decode cX8_asks 78 = .ok (.iadd, 1) := dk_96 (dk_at dksX8_asks_3 9 rfl rfl)
theorem dX8_asks_79 : decode cX8_asks 79 = .ok (.aload_n 0, 1) := dk_42 (dk_at dksX8_asks_3 10 rfl rfl)
theorem dX8_asks_80 : decode cX8_asks 80 = .ok (.getfield 9, 3) := dk_180 0 9 (dk_at dksX8_asks_3 11 rfl rfl)
theorem dX8_asks_83 : decode cX8_asks 83 = .ok (.iload 7, 2) := dk_21 7 (dk_at dksX8_asks_3 14 rfl rfl)
theorem dX8_asks_85 : decode cX8_asks 85 = .ok (.iaload, 1) := dk_46 (dk_at dksX8_asks_3 16 rfl rfl)
theorem dX8_asks_86 : decode cX8_asks 86 = .ok (.iadd, 1) := dk_96 (dk_at dksX8_asks_3 17 rfl rfl)
theorem dX8_asks_87 : decode cX8_asks 87 = .ok (.istore 8, 2) := dk_54 8 (dk_at dksX8_asks_3 18 rfl rfl)
theorem dX8_asks_89 : decode cX8_asks 89 = .ok (.iload 5, 2) := dk_21 5 (dk_at dksX8_asks_3 20 rfl rfl)
theorem dX8_asks_91 : decode cX8_asks 91 = .ok (.aload_n 0, 1) := dk_42 (dk_at dksX8_asks_3 22 rfl rfl)
theorem dX8_asks_92 : decode cX8_asks 92 = .ok (.getfield 15, 3) := dk_180 0 15 (dk_at dksX8_asks_4 0 rfl rfl)
theorem dX8_asks_95 : decode cX8_asks 95 = .ok (.iload 7, 2) := dk_21 7 (dk_at dksX8_asks_4 3 rfl rfl)
theorem dX8_asks_97 : decode cX8_asks 97 = .ok (.iaload, 1) := dk_46 (dk_at dksX8_asks_4 5 rfl rfl)
theorem dX8_asks_98 : decode cX8_asks 98 = .ok (.iadd, 1) := dk_96 (dk_at dksX8_asks_4 6 rfl rfl)
theorem dX8_asks_99 : decode cX8_asks 99 = .ok (.istore 9, 2) := dk_54 9 (dk_at dksX8_asks_4 7 rfl rfl)
theorem dX8_asks_101 : decode cX8_asks 101 = .ok (.iload_n 3, 1) := dk_29 (dk_at dksX8_asks_4 9 rfl rfl)
theorem dX8_asks_102 : decode cX8_asks 102 = .ok (.iconst (-1), 1) := dk_2 (dk_at dksX8_asks_4 10 rfl rfl)
theorem dX8_asks_103 : decode cX8_asks 103 = .ok (.if_icmp .eq 25, 3) := dk_159 0 25 (dk_at dksX8_asks_4 11 rfl rfl)
theorem dX8_asks_106 : decode cX8_asks 106 = .ok (.iload 8, 2) := dk_21 8 (dk_at dksX8_asks_4 14 rfl rfl)
theorem dX8_asks_108 : decode cX8_asks 108 = .ok (.iload_n 3, 1) := dk_29 (dk_at dksX8_asks_4 16 rfl rfl)
theorem dX8_asks_109 : decode cX8_asks 109 = .ok (.if_icmp .gt 26, 3) := dk_163 0 26 (dk_at dksX8_asks_4 17 rfl rfl)
theorem dX8_asks_112 : decode cX8_asks 112 = .ok (.iload 8, 2) := dk_21 8 (dk_at dksX8_asks_4 20 rfl rfl)
theorem dX8_asks_114 : decode cX8_asks 114 = .ok (.iload_n 3, 1) := dk_29 (dk_at dksX8_asks_4 22 rfl rfl)
theorem dX8_asks_115 : decode cX8_asks 115 = .ok (.if_icmp .ne 13, 3) := dk_160 0 13 (dk_at dksX8_asks_5 0 rfl rfl)
theorem dX8_asks_118 : decode cX8_asks 118 = .ok (.iload 9, 2) := dk_21 9 (dk_at dksX8_asks_5 3 rfl rfl)
theorem dX8_asks_120 : decode cX8_asks 120 = .ok (.iload 4, 2) := dk_21 4 (dk_at dksX8_asks_5 5 rfl rfl)
theorem dX8_asks_122 : decode cX8_asks 122 = .ok (.if_icmp .lt 6, 3) := dk_161 0 6 (dk_at dksX8_asks_5 7 rfl rfl)
theorem dX8_asks_125 : decode cX8_asks 125 = .ok (.goto 10, 3) := dk_167 0 10 (dk_at dksX8_asks_5 10 rfl rfl)
theorem dX8_asks_128 : decode cX8_asks 128 = .ok (.iload 8, 2) := dk_21 8 (dk_at dksX8_asks_5 13 rfl rfl)
theorem dX8_asks_130 : decode cX8_asks 130 = .ok (.istore_n 3, 1) := dk_62 (dk_at dksX8_asks_5 15 rfl rfl)
theorem dX8_asks_131 : decode cX8_asks 131 = .ok (.iload 9, 2) := dk_21 9 (dk_at dksX8_asks_5 16 rfl rfl)
theorem dX8_asks_133 : decode cX8_asks 133 = .ok (.istore 4, 2) := dk_54 4 (dk_at dksX8_asks_5 18 rfl rfl)
theorem dX8_asks_135 : decode cX8_asks 135 = .ok (.iinc 5 1, 3) := dk_132 5 1 (dk_at dksX8_asks_5 20 rfl rfl)
theorem dX8_asks_138 : decode cX8_asks 138 = .ok (.goto (-130), 3) := dk_167 255 126 (dk_at dksX8_asks_6 0 rfl rfl)
theorem dX8_asks_141 : decode cX8_asks 141 = .ok (.aload_n 0, 1) := dk_42 (dk_at dksX8_asks_6 3 rfl rfl)
theorem dX8_asks_142 : decode cX8_asks 142 = .ok (.getfield 18, 3) := dk_180 0 18 (dk_at dksX8_asks_6 4 rfl rfl)
theorem dX8_asks_145 : decode cX8_asks 145 = .ok (.iload_n 1, 1) := dk_27 (dk_at dksX8_asks_6 7 rfl rfl)
theorem dX8_asks_146 : decode cX8_asks 146 = .ok (.iload_n 3, 1) := dk_29 (dk_at dksX8_asks_6 8 rfl rfl)
theorem dX8_asks_147 : decode cX8_asks 147 = .ok (.iastore, 1) := dk_79 (dk_at dksX8_asks_6 9 rfl rfl)
theorem dX8_asks_148 : decode cX8_asks 148 = .ok (.aload_n 0, 1) := dk_42 (dk_at dksX8_asks_6 10 rfl rfl)
theorem dX8_asks_149 : decode cX8_asks 149 = .ok (.getfield 21, 3) := dk_180 0 21 (dk_at dksX8_asks_6 11 rfl rfl)
theorem dX8_asks_152 : decode cX8_asks 152 = .ok (.iload_n 1, 1) := dk_27 (dk_at dksX8_asks_6 14 rfl rfl)
theorem dX8_asks_153 : decode cX8_asks 153 = .ok (.iload 4, 2) := dk_21 4 (dk_at dksX8_asks_6 15 rfl rfl)
theorem dX8_asks_155 : decode cX8_asks 155 = .ok (.iastore, 1) := dk_79 (dk_at dksX8_asks_6 17 rfl rfl)
theorem dX8_asks_156 : decode cX8_asks 156 = .ok (.return_, 1) := dk_177 (dk_at dksX8_asks_6 18 rfl rfl)
theorem q103 : (Jvm.Cond.initialized "RainWheel$Miles") ∈ lw_all := lw_g (lw_at lw_m1 8 rfl) rfl
theorem q327 : (Jvm.Cond.instantiable "RainWheel$Miles" (4 : Nat)) ∈ lw_all := lw_g (lw_at lw_m1 232 rfl) rfl
theorem q329 : (Jvm.Cond.instanceMethod ({ cls := "RainWheel$Miles", name := "<init>", desc := "()V" } : Jvm.MethodName)) ∈ lw_all := lw_g (lw_at lw_m1 234 rfl) rfl
theorem q330 : (Jvm.Cond.code ({ cls := "RainWheel$Miles", name := "<init>", desc := "()V" } : Jvm.MethodName) prog_6_method_1_code (1 : Nat) (Option.none : Option Jvm.ClassFile.FieldType)) ∈ lw_all := lw_g (lw_at lw_m1 235 rfl) rfl
theorem q331 : (Jvm.Cond.methodLink "RainWheel$Miles" (3 : Nat) ({ cls := "java/lang/Object", name := "<init>", desc := "()V" } : Jvm.MethodName)) ∈ lw_all := lw_g (lw_at lw_m1 236 rfl) rfl
theorem q332 : (Jvm.Cond.fieldLink "RainWheel$Miles" (9 : Nat) "RainWheel$Miles" "minutes" "[I") ∈ lw_all := lw_g (lw_at lw_m1 237 rfl) rfl
theorem q334 : (Jvm.Cond.fieldLink "RainWheel$Miles" (15 : Nat) "RainWheel$Miles" "pumps" "[I") ∈ lw_all := lw_g (lw_at lw_m1 239 rfl) rfl
theorem q336 : (Jvm.Cond.fieldLink "RainWheel$Miles" (18 : Nat) "RainWheel$Miles" "nextMinutes" "[I") ∈ lw_all := lw_g (lw_at lw_m2 1 rfl) rfl
theorem q337 : (Jvm.Cond.fieldLink "RainWheel$Miles" (21 : Nat) "RainWheel$Miles" "nextPumps" "[I") ∈ lw_all := lw_g (lw_at lw_m2 2 rfl) rfl
theorem q338 : (Jvm.Cond.laysFinal "RainWheel$Miles" "RainWheel$Miles" "minutes" "[I") ∈ lw_all := lw_g (lw_at lw_m2 3 rfl) rfl
theorem q339 : (Jvm.Cond.soleField "RainWheel$Miles" "minutes") ∈ lw_all := lw_g (lw_at lw_m2 4 rfl) rfl
theorem q340 : (Jvm.Cond.laysFinal "RainWheel$Miles" "RainWheel$Miles" "pumps" "[I") ∈ lw_all := lw_g (lw_at lw_m2 5 rfl) rfl
theorem q341 : (Jvm.Cond.soleField "RainWheel$Miles" "pumps") ∈ lw_all := lw_g (lw_at lw_m2 6 rfl) rfl
theorem q342 : (Jvm.Cond.laysFinal "RainWheel$Miles" "RainWheel$Miles" "nextMinutes" "[I") ∈ lw_all := lw_g (lw_at lw_m2 7 rfl) rfl
theorem q343 : (Jvm.Cond.soleField "RainWheel$Miles" "nextMinutes") ∈ lw_all := lw_g (lw_at lw_m2 8 rfl) rfl
theorem q344 : (Jvm.Cond.laysFinal "RainWheel$Miles" "RainWheel$Miles" "nextPumps" "[I") ∈ lw_all := lw_g (lw_at lw_m2 9 rfl) rfl
theorem q345 : (Jvm.Cond.soleField "RainWheel$Miles" "nextPumps") ∈ lw_all := lw_g (lw_at lw_m2 10 rfl) rfl
theorem q346 : (Jvm.Cond.superclass "RainWheel$Miles" "java/lang/Object") ∈ lw_all := lw_g (lw_at lw_m2 11 rfl) rfl
theorem q1443 : (Jvm.Cond.instanceMethod ({ cls := "RainWheel$Miles", name := "lays", desc := "(II)V" } : Jvm.MethodName)) ∈ lw_all := lw_g (lw_at lw_m6 148 rfl) rfl
theorem q1444 : (Jvm.Cond.selects "RainWheel$Miles" ({ cls := "RainWheel$Miles", name := "lays", desc := "(II)V" } : Jvm.MethodName) ({ cls := "RainWheel$Miles", name := "lays", desc := "(II)V" } : Jvm.MethodName)) ∈ lw_all := lw_g (lw_at lw_m6 149 rfl) rfl
theorem q1445 : (Jvm.Cond.code ({ cls := "RainWheel$Miles", name := "lays", desc := "(II)V" } : Jvm.MethodName) prog_6_method_2_code (5 : Nat) (Option.none : Option Jvm.ClassFile.FieldType)) ∈ lw_all := lw_g (lw_at lw_m6 150 rfl) rfl
theorem q1446 : (Jvm.Cond.methodLink "RainWheel$Miles" (24 : Nat) ({ cls := "RainWheel$Miles", name := "asks", desc := "(IZ)V" } : Jvm.MethodName)) ∈ lw_all := lw_g (lw_at lw_m6 151 rfl) rfl
theorem q1447 : (Jvm.Cond.privateMethod ({ cls := "RainWheel$Miles", name := "asks", desc := "(IZ)V" } : Jvm.MethodName)) ∈ lw_tbl := lw_at lw_m6 152 rfl
theorem q1448 : (Jvm.Cond.instanceMethod ({ cls := "RainWheel$Miles", name := "asks", desc := "(IZ)V" } : Jvm.MethodName)) ∈ lw_all := lw_g (lw_at lw_m6 153 rfl) rfl
theorem q1449 : (Jvm.Cond.code ({ cls := "RainWheel$Miles", name := "asks", desc := "(IZ)V" } : Jvm.MethodName) prog_6_method_3_code (10 : Nat) (Option.none : Option Jvm.ClassFile.FieldType)) ∈ lw_all := lw_g (lw_at lw_m6 154 rfl) rfl
theorem q1450 : (Jvm.Cond.methodLink "RainWheel$Miles" (34 : Nat) ({ cls := "java/lang/Math", name := "min", desc := "(II)I" } : Jvm.MethodName)) ∈ lw_all := lw_g (lw_at lw_m6 155 rfl) rfl
theorem q1451 : (Jvm.Cond.methodLink "RainWheel$Miles" (40 : Nat) ({ cls := "java/lang/Math", name := "max", desc := "(II)I" } : Jvm.MethodName)) ∈ lw_all := lw_g (lw_at lw_m6 156 rfl) rfl
theorem q1452 : (Jvm.Cond.methodLink "RainWheel$Miles" (28 : Nat) ({ cls := "java/lang/System", name := "arraycopy", desc := "(Ljava/lang/Object;ILjava/lang/Object;II)V" } : Jvm.MethodName)) ∈ lw_all := lw_g (lw_at lw_m6 157 rfl) rfl
theorem q2258 : (Jvm.Cond.castable "RainWheel$Miles" "java/lang/Object") ∈ lw_tbl := lw_at lw_m10 3 rfl

abbrev cX9_init : ByteArray := prog_10_method_1_code
def yX9_init : MethodName := ⟨RX9, "<init>", "()V"⟩
def dkwX9_init_6 : List UInt8 := [6, 79, 132, 1, 1, 167, 255, 240, 177]
abbrev dktX9_init_6 : List UInt8 := dkwX9_init_6 ++ []
def dkwX9_init_5 : List UInt8 := [42, 16, 30, 181, 0, 60, 42, 8, 181, 0, 63, 3, 60, 27, 16, 60, 162, 0, 16, 42, 180, 0, 36, 27]
abbrev dktX9_init_5 : List UInt8 := dkwX9_init_5 ++ dktX9_init_6
def dkwX9_init_4 : List UInt8 := [181, 0, 45, 42, 7, 6, 197, 0, 48, 2, 181, 0, 50, 42, 16, 20, 181, 0, 53, 42, 5, 181, 0, 57]
abbrev dktX9_init_4 : List UInt8 := dkwX9_init_4 ++ dktX9_init_5
def dkwX9_init_3 : List UInt8 := [181, 0, 36, 42, 16, 6, 188, 10, 181, 0, 39, 42, 16, 8, 188, 10, 181, 0, 42, 42, 7, 188, 10]
abbrev dktX9_init_3 : List UInt8 := dkwX9_init_3 ++ dktX9_init_4
def dkwX9_init_2 : List UInt8 := [181, 0, 27, 42, 16, 6, 188, 10, 181, 0, 30, 42, 16, 6, 188, 10, 181, 0, 33, 42, 16, 60, 188, 10]
abbrev dktX9_init_2 : List UInt8 := dkwX9_init_2 ++ dktX9_init_3
def dkwX9_init_1 : List UInt8 := [181, 0, 18, 42, 16, 12, 188, 10, 181, 0, 21, 42, 16, 12, 188, 10, 181, 0, 24, 42, 16, 12, 188, 10]
abbrev dktX9_init_1 : List UInt8 := dkwX9_init_1 ++ dktX9_init_2
def dkwX9_init_0 : List UInt8 := [42, 183, 0, 3, 42, 7, 188, 10, 181, 0, 9, 42, 16, 12, 188, 10, 181, 0, 15, 42, 16, 12, 188, 10]
abbrev dktX9_init_0 : List UInt8 := dkwX9_init_0 ++ dktX9_init_1
theorem dksX9_init_0 : cX9_init.data.toList.drop 0 = dktX9_init_0 := by decide +kernel
theorem dksX9_init_1 : cX9_init.data.toList.drop 24 = dktX9_init_1 := dk_seg dksX9_init_0 24 rfl rfl
theorem dksX9_init_2 : cX9_init.data.toList.drop 48 = dktX9_init_2 := dk_seg dksX9_init_1 24 rfl rfl
theorem dksX9_init_3 : cX9_init.data.toList.drop 72 = dktX9_init_3 := dk_seg dksX9_init_2 24 rfl rfl
theorem dksX9_init_4 : cX9_init.data.toList.drop 95 = dktX9_init_4 := dk_seg dksX9_init_3 23 rfl rfl
theorem dksX9_init_5 : cX9_init.data.toList.drop 119 = dktX9_init_5 := dk_seg dksX9_init_4 24 rfl rfl
theorem dksX9_init_6 : cX9_init.data.toList.drop 143 = dktX9_init_6 := dk_seg dksX9_init_5 24 rfl rfl
theorem dX9_init_0 : decode cX9_init 0 = .ok (.aload_n 0, 1) := dk_42 (dk_at dksX9_init_0 0 rfl rfl)
theorem dX9_init_1 : decode cX9_init 1 = .ok (.invokespecial 3, 3) := dk_183 0 3 (dk_at dksX9_init_0 1 rfl rfl)
theorem dX9_init_4 : decode cX9_init 4 = .ok (.aload_n 0, 1) := dk_42 (dk_at dksX9_init_0 4 rfl rfl)
theorem dX9_init_5 : decode cX9_init 5 = .ok (.iconst 4, 1) := dk_7 (dk_at dksX9_init_0 5 rfl rfl)
theorem dX9_init_6 : decode cX9_init 6 = .ok (.newarray .int, 2) := dk_188_10 (dk_at dksX9_init_0 6 rfl rfl)
theorem dX9_init_8 : decode cX9_init 8 = .ok (.putfield 9, 3) := dk_181 0 9 (dk_at dksX9_init_0 8 rfl rfl)
theorem dX9_init_11 : decode cX9_init 11 = .ok (.aload_n 0, 1) := dk_42 (dk_at dksX9_init_0 11 rfl rfl)
theorem dX9_init_12 : decode cX9_init 12 = .ok (.bipush 12, 2) := dk_16 12 (dk_at dksX9_init_0 12 rfl rfl)
theorem dX9_init_14 : decode cX9_init 14 = .ok (.newarray .int, 2) := dk_188_10 (dk_at dksX9_init_0 14 rfl rfl)
theorem dX9_init_16 : decode cX9_init 16 = .ok (.putfield 15, 3) := dk_181 0 15 (dk_at dksX9_init_0 16 rfl rfl)
theorem dX9_init_19 : decode cX9_init 19 = .ok (.aload_n 0, 1) := dk_42 (dk_at dksX9_init_0 19 rfl rfl)
theorem dX9_init_20 : decode cX9_init 20 = .ok (.bipush 12, 2) := dk_16 12 (dk_at dksX9_init_0 20 rfl rfl)
theorem dX9_init_22 : decode cX9_init 22 = .ok (.newarray .int, 2) := dk_188_10 (dk_at dksX9_init_0 22 rfl rfl)
theorem dX9_init_24 : decode cX9_init 24 = .ok (.putfield 18, 3) := dk_181 0 18 (dk_at dksX9_init_1 0 rfl rfl)
theorem dX9_init_27 : decode cX9_init 27 = .ok (.aload_n 0, 1) := dk_42 (dk_at dksX9_init_1 3 rfl rfl)
theorem dX9_init_28 : decode cX9_init 28 = .ok (.bipush 12, 2) := dk_16 12 (dk_at dksX9_init_1 4 rfl rfl)
theorem dX9_init_30 : decode cX9_init 30 = .ok (.newarray .int, 2) := dk_188_10 (dk_at dksX9_init_1 6 rfl rfl)
theorem dX9_init_32 : decode cX9_init 32 = .ok (.putfield 21, 3) := dk_181 0 21 (dk_at dksX9_init_1 8 rfl rfl)
theorem dX9_init_35 : decode cX9_init 35 = .ok (.aload_n 0, 1) := dk_42 (dk_at dksX9_init_1 11 rfl rfl)
theorem dX9_init_36 : decode cX9_init 36 = .ok (.bipush 12, 2) := dk_16 12 (dk_at dksX9_init_1 12 rfl rfl)
theorem dX9_init_38 : decode cX9_init 38 = .ok (.newarray .int, 2) := dk_188_10 (dk_at dksX9_init_1 14 rfl rfl)
theorem dX9_init_40 : decode cX9_init 40 = .ok (.putfield 24, 3) := dk_181 0 24 (dk_at dksX9_init_1 16 rfl rfl)
theorem dX9_init_43 : decode cX9_init 43 = .ok (.aload_n 0, 1) := dk_42 (dk_at dksX9_init_1 19 rfl rfl)
theorem dX9_init_44 : decode cX9_init 44 = .ok (.bipush 12, 2) := dk_16 12 (dk_at dksX9_init_1 20 rfl rfl)
theorem dX9_init_46 : decode cX9_init 46 = .ok (.newarray .int, 2) := dk_188_10 (dk_at dksX9_init_1 22 rfl rfl)
theorem dX9_init_48 : decode cX9_init 48 = .ok (.putfield 27, 3) := dk_181 0 27 (dk_at dksX9_init_2 0 rfl rfl)
theorem dX9_init_51 : decode cX9_init 51 = .ok (.aload_n 0, 1) := dk_42 (dk_at dksX9_init_2 3 rfl rfl)
theorem dX9_init_52 : decode cX9_init 52 = .ok (.bipush 6, 2) := dk_16 6 (dk_at dksX9_init_2 4 rfl rfl)
theorem dX9_init_54 : decode cX9_init 54 = .ok (.newarray .int, 2) := dk_188_10 (dk_at dksX9_init_2 6 rfl rfl)
theorem dX9_init_56 : decode cX9_init 56 = .ok (.putfield 30, 3) := dk_181 0 30 (dk_at dksX9_init_2 8 rfl rfl)
theorem dX9_init_59 : decode cX9_init 59 = .ok (.aload_n 0, 1) := dk_42 (dk_at dksX9_init_2 11 rfl rfl)
theorem dX9_init_60 : decode cX9_init 60 = .ok (.bipush 6, 2) := dk_16 6 (dk_at dksX9_init_2 12 rfl rfl)
theorem dX9_init_62 : decode cX9_init 62 = .ok (.newarray .int, 2) := dk_188_10 (dk_at dksX9_init_2 14 rfl rfl)
theorem dX9_init_64 : decode cX9_init 64 = .ok (.putfield 33, 3) := dk_181 0 33 (dk_at dksX9_init_2 16 rfl rfl)
theorem dX9_init_67 : decode cX9_init 67 = .ok (.aload_n 0, 1) := dk_42 (dk_at dksX9_init_2 19 rfl rfl)
theorem dX9_init_68 : decode cX9_init 68 = .ok (.bipush 60, 2) := dk_16 60 (dk_at dksX9_init_2 20 rfl rfl)
theorem dX9_init_70 : decode cX9_init 70 = .ok (.newarray .int, 2) := dk_188_10 (dk_at dksX9_init_2 22 rfl rfl)
theorem dX9_init_72 : decode cX9_init 72 = .ok (.putfield 36, 3) := dk_181 0 36 (dk_at dksX9_init_3 0 rfl rfl)
theorem dX9_init_75 : decode cX9_init 75 = .ok (.aload_n 0, 1) := dk_42 (dk_at dksX9_init_3 3 rfl rfl)
theorem dX9_init_76 : decode cX9_init 76 = .ok (.bipush 6, 2) := dk_16 6 (dk_at dksX9_init_3 4 rfl rfl)
theorem dX9_init_78 : decode cX9_init 78 = .ok (.newarray .int, 2) := dk_188_10 (dk_at dksX9_init_3 6 rfl rfl)
theorem dX9_init_80 : decode cX9_init 80 = .ok (.putfield 39, 3) := dk_181 0 39 (dk_at dksX9_init_3 8 rfl rfl)
theorem dX9_init_83 : decode cX9_init 83 = .ok (.aload_n 0, 1) := dk_42 (dk_at dksX9_init_3 11 rfl rfl)
theorem dX9_init_84 : decode cX9_init 84 = .ok (.bipush 8, 2) := dk_16 8 (dk_at dksX9_init_3 12 rfl rfl)
theorem dX9_init_86 : decode cX9_init 86 = .ok (.newarray .int, 2) := dk_188_10 (dk_at dksX9_init_3 14 rfl rfl)
theorem dX9_init_88 : decode cX9_init 88 = .ok (.putfield 42, 3) := dk_181 0 42 (dk_at dksX9_init_3 16 rfl rfl)
theorem dX9_init_91 : decode cX9_init 91 = .ok (.aload_n 0, 1) := dk_42 (dk_at dksX9_init_3 19 rfl rfl)
theorem dX9_init_92 : decode cX9_init 92 = .ok (.iconst 4, 1) := dk_7 (dk_at dksX9_init_3 20 rfl rfl)
theorem dX9_init_93 : decode cX9_init 93 = .ok (.newarray .int, 2) := dk_188_10 (dk_at dksX9_init_3 21 rfl rfl)
theorem dX9_init_95 : decode cX9_init 95 = .ok (.putfield 45, 3) := dk_181 0 45 (dk_at dksX9_init_4 0 rfl rfl)
theorem dX9_init_98 : decode cX9_init 98 = .ok (.aload_n 0, 1) := dk_42 (dk_at dksX9_init_4 3 rfl rfl)
theorem dX9_init_99 : decode cX9_init 99 = .ok (.iconst 4, 1) := dk_7 (dk_at dksX9_init_4 4 rfl rfl)
theorem dX9_init_100 : decode cX9_init 100 = .ok (.iconst 3, 1) := dk_6 (dk_at dksX9_init_4 5 rfl rfl)
theorem dX9_init_101 : decode cX9_init 101 = .ok (.multianewarray 48 2, 4) := by decide +kernel
theorem dX9_init_105 : decode cX9_init 105 = .ok (.putfield 50, 3) := dk_181 0 50 (dk_at dksX9_init_4 10 rfl rfl)
theorem dX9_init_108 : decode cX9_init 108 = .ok (.aload_n 0, 1) := dk_42 (dk_at dksX9_init_4 13 rfl rfl)
theorem dX9_init_109 : decode cX9_init 109 = .ok (.bipush 20, 2) := dk_16 20 (dk_at dksX9_init_4 14 rfl rfl)
theorem dX9_init_111 : decode cX9_init 111 = .ok (.putfield 53, 3) := dk_181 0 53 (dk_at dksX9_init_4 16 rfl rfl)
theorem dX9_init_114 : decode cX9_init 114 = .ok (.aload_n 0, 1) := dk_42 (dk_at dksX9_init_4 19 rfl rfl)
theorem dX9_init_115 : decode cX9_init 115 = .ok (.iconst 2, 1) := dk_5 (dk_at dksX9_init_4 20 rfl rfl)
theorem dX9_init_116 : decode cX9_init 116 = .ok (.putfield 57, 3) := dk_181 0 57 (dk_at dksX9_init_4 21 rfl rfl)
theorem dX9_init_119 : decode cX9_init 119 = .ok (.aload_n 0, 1) := dk_42 (dk_at dksX9_init_5 0 rfl rfl)
theorem dX9_init_120 : decode cX9_init 120 = .ok (.bipush 30, 2) := dk_16 30 (dk_at dksX9_init_5 1 rfl rfl)
theorem dX9_init_122 : decode cX9_init 122 = .ok (.putfield 60, 3) := dk_181 0 60 (dk_at dksX9_init_5 3 rfl rfl)
theorem dX9_init_125 : decode cX9_init 125 = .ok (.aload_n 0, 1) := dk_42 (dk_at dksX9_init_5 6 rfl rfl)
theorem dX9_init_126 : decode cX9_init 126 = .ok (.iconst 5, 1) := dk_8 (dk_at dksX9_init_5 7 rfl rfl)
theorem dX9_init_127 : decode cX9_init 127 = .ok (.putfield 63, 3) := dk_181 0 63 (dk_at dksX9_init_5 8 rfl rfl)
theorem dX9_init_130 : decode cX9_init 130 = .ok (.iconst 0, 1) := dk_3 (dk_at dksX9_init_5 11 rfl rfl)
theorem dX9_init_131 : decode cX9_init 131 = .ok (.istore_n 1, 1) := dk_60 (dk_at dksX9_init_5 12 rfl rfl)
theorem dX9_init_132 : decode cX9_init 132 = .ok (.iload_n 1, 1) := dk_27 (dk_at dksX9_init_5 13 rfl rfl)
theorem dX9_init_133 : decode cX9_init 133 = .ok (.bipush 60, 2) := dk_16 60 (dk_at dksX9_init_5 14 rfl rfl)
theorem dX9_init_135 : decode cX9_init 135 = .ok (.if_icmp .ge 16, 3) := dk_162 0 16 (dk_at dksX9_init_5 16 rfl rfl)
theorem dX9_init_138 : decode cX9_init 138 = .ok (.aload_n 0, 1) := dk_42 (dk_at dksX9_init_5 19 rfl rfl)
theorem dX9_init_139 : decode cX9_init 139 = .ok (.getfield 36, 3) := dk_180 0 36 (dk_at dksX9_init_5 20 rfl rfl)
theorem dX9_init_142 : decode cX9_init 142 = .ok (.iload_n 1, 1) := dk_27 (dk_at dksX9_init_5 23 rfl rfl)
theorem dX9_init_143 : decode cX9_init 143 = .ok (.iconst 3, 1) := dk_6 (dk_at dksX9_init_6 0 rfl rfl)
theorem dX9_init_144 : decode cX9_init 144 = .ok (.iastore, 1) := dk_79 (dk_at dksX9_init_6 1 rfl rfl)
theorem dX9_init_145 : decode cX9_init 145 = .ok (.iinc 1 1, 3) := dk_132 1 1 (dk_at dksX9_init_6 2 rfl rfl)
theorem dX9_init_148 : decode cX9_init 148 = .ok (.goto (-16), 3) := dk_167 255 240 (dk_at dksX9_init_6 5 rfl rfl)
theorem dX9_init_151 : decode cX9_init 151 = .ok (.return_, 1) := dk_177 (dk_at dksX9_init_6 8 rfl rfl)
abbrev cX9_isDone : ByteArray := prog_10_method_5_code
def yX9_isDone : MethodName := ⟨RX9, "isDone", "(II)Z"⟩
def dkwX9_isDone_1 : List UInt8 := [161, 0, 7, 4, 167, 0, 4, 3, 172]
abbrev dktX9_isDone_1 : List UInt8 := dkwX9_isDone_1 ++ []
def dkwX9_isDone_0 : List UInt8 := [28, 184, 0, 76, 42, 180, 0, 21, 27, 46, 160, 0, 21, 42, 28, 182, 0, 82, 42, 180, 0, 24, 27, 46]
abbrev dktX9_isDone_0 : List UInt8 := dkwX9_isDone_0 ++ dktX9_isDone_1
theorem dksX9_isDone_0 : cX9_isDone.data.toList.drop 0 = dktX9_isDone_0 := by decide +kernel
theorem dksX9_isDone_1 : cX9_isDone.data.toList.drop 24 = dktX9_isDone_1 := dk_seg dksX9_isDone_0 24 rfl rfl
theorem dX9_isDone_0 : decode cX9_isDone 0 = .ok (.iload_n 2, 1) := dk_28 (dk_at dksX9_isDone_0 0 rfl rfl)
theorem dX9_isDone_1 : decode cX9_isDone 1 = .ok (.invokestatic 76, 3) := dk_184 0 76 (dk_at dksX9_isDone_0 1 rfl rfl)
theorem dX9_isDone_4 : decode cX9_isDone 4 = .ok (.aload_n 0, 1) := dk_42 (dk_at dksX9_isDone_0 4 rfl rfl)
theorem dX9_isDone_5 : decode cX9_isDone 5 = .ok (.getfield 21, 3) := dk_180 0 21 (dk_at dksX9_isDone_0 5 rfl rfl)
theorem dX9_isDone_8 : decode cX9_isDone 8 = .ok (.iload_n 1, 1) := dk_27 (dk_at dksX9_isDone_0 8 rfl rfl)
theorem dX9_isDone_9 : decode cX9_isDone 9 = .ok (.iaload, 1) := dk_46 (dk_at dksX9_isDone_0 9 rfl rfl)
theorem dX9_isDone_10 : decode cX9_isDone 10 = .ok (.if_icmp .ne 21, 3) := dk_160 0 21 (dk_at dksX9_isDone_0 10 rfl rfl)
theorem dX9_isDone_13 : decode cX9_isDone 13 = .ok (.aload_n 0, 1) := dk_42 (dk_at dksX9_isDone_0 13 rfl rfl)
theorem dX9_isDone_14 : decode cX9_isDone 14 = .ok (.iload_n 2, 1) := dk_28 (dk_at dksX9_isDone_0 14 rfl rfl)
theorem dX9_isDone_15 : decode cX9_isDone 15 = .ok (.invokevirtual 82, 3) := dk_182 0 82 (dk_at dksX9_isDone_0 15 rfl rfl)
theorem dX9_isDone_18 : decode cX9_isDone 18 = .ok (.aload_n 0, 1) := dk_42 (dk_at dksX9_isDone_0 18 rfl rfl)
theorem dX9_isDone_19 : decode cX9_isDone 19 = .ok (.getfield 24, 3) := dk_180 0 24 (dk_at dksX9_isDone_0 19 rfl rfl)
theorem dX9_isDone_22 : decode cX9_isDone 22 = .ok (.iload_n 1, 1) := dk_27 (dk_at dksX9_isDone_0 22 rfl rfl)
theorem dX9_isDone_23 : decode cX9_isDone 23 = .ok (.iaload, 1) := dk_46 (dk_at dksX9_isDone_0 23 rfl rfl)
theorem dX9_isDone_24 : decode cX9_isDone 24 = .ok (.if_icmp .lt 7, 3) := dk_161 0 7 (dk_at dksX9_isDone_1 0 rfl rfl)
theorem dX9_isDone_27 : decode cX9_isDone 27 = .ok (.iconst 1, 1) := dk_4 (dk_at dksX9_isDone_1 3 rfl rfl)
theorem dX9_isDone_28 : decode cX9_isDone 28 = .ok (.goto 4, 3) := dk_167 0 4 (dk_at dksX9_isDone_1 4 rfl rfl)
theorem dX9_isDone_31 : decode cX9_isDone 31 = .ok (.iconst 0, 1) := dk_3 (dk_at dksX9_isDone_1 7 rfl rfl)
theorem dX9_isDone_32 : decode cX9_isDone 32 = .ok (.ireturn, 1) := dk_172 (dk_at dksX9_isDone_1 8 rfl rfl)
abbrev cX9_strongOf : ByteArray := prog_10_method_4_code
def yX9_strongOf : MethodName := ⟨RX9, "strongOf", "(I)I"⟩
def dkwX9_strongOf_1 : List UInt8 := [180, 0, 9, 29, 46, 96, 61, 132, 3, 1, 167, 255, 227, 28, 172]
abbrev dktX9_strongOf_1 : List UInt8 := dkwX9_strongOf_1 ++ []
def dkwX9_strongOf_0 : List UInt8 := [3, 61, 3, 62, 29, 42, 180, 0, 73, 162, 0, 27, 27, 29, 122, 4, 126, 4, 160, 0, 12, 28, 42]
abbrev dktX9_strongOf_0 : List UInt8 := dkwX9_strongOf_0 ++ dktX9_strongOf_1
theorem dksX9_strongOf_0 : cX9_strongOf.data.toList.drop 0 = dktX9_strongOf_0 := by decide +kernel
theorem dksX9_strongOf_1 : cX9_strongOf.data.toList.drop 23 = dktX9_strongOf_1 := dk_seg dksX9_strongOf_0 23 rfl rfl
theorem dX9_strongOf_0 : decode cX9_strongOf 0 = .ok (.iconst 0, 1) := dk_3 (dk_at dksX9_strongOf_0 0 rfl rfl)
theorem dX9_strongOf_1 : decode cX9_strongOf 1 = .ok (.istore_n 2, 1) := dk_61 (dk_at dksX9_strongOf_0 1 rfl rfl)
theorem dX9_strongOf_2 : decode cX9_strongOf 2 = .ok (.iconst 0, 1) := dk_3 (dk_at dksX9_strongOf_0 2 rfl rfl)
theorem dX9_strongOf_3 : decode cX9_strongOf 3 = .ok (.istore_n 3, 1) := dk_62 (dk_at dksX9_strongOf_0 3 rfl rfl)
theorem dX9_strongOf_4 : decode cX9_strongOf 4 = .ok (.iload_n 3, 1) := dk_29 (dk_at dksX9_strongOf_0 4 rfl rfl)
theorem dX9_strongOf_5 : decode cX9_strongOf 5 = .ok (.aload_n 0, 1) := dk_42 (dk_at dksX9_strongOf_0 5 rfl rfl)
theorem dX9_strongOf_6 : decode cX9_strongOf 6 = .ok (.getfield 73, 3) := dk_180 0 73 (dk_at dksX9_strongOf_0 6 rfl rfl)
theorem dX9_strongOf_9 : decode cX9_strongOf 9 = .ok (.if_icmp .ge 27, 3) := dk_162 0 27 (dk_at dksX9_strongOf_0 9 rfl rfl)
theorem dX9_strongOf_12 : decode cX9_strongOf 12 = .ok (.iload_n 1, 1) := dk_27 (dk_at dksX9_strongOf_0 12 rfl rfl)
theorem dX9_strongOf_13 : decode cX9_strongOf 13 = .ok (.iload_n 3, 1) := dk_29 (dk_at dksX9_strongOf_0 13 rfl rfl)
theorem dX9_strongOf_14 : decode cX9_strongOf 14 = .ok (.ishr, 1) := dk_122 (dk_at dksX9_strongOf_0 14 rfl rfl)
theorem dX9_strongOf_15 : decode cX9_strongOf 15 = .ok (.iconst 1, 1) := dk_4 (dk_at dksX9_strongOf_0 15 rfl rfl)
theorem dX9_strongOf_16 : decode cX9_strongOf 16 = .ok (.iand, 1) := dk_126 (dk_at dksX9_strongOf_0 16 rfl rfl)
theorem dX9_strongOf_17 : decode cX9_strongOf 17 = .ok (.iconst 1, 1) := dk_4 (dk_at dksX9_strongOf_0 17 rfl rfl)
theorem dX9_strongOf_18 : decode cX9_strongOf 18 = .ok (.if_icmp .ne 12, 3) := dk_160 0 12 (dk_at dksX9_strongOf_0 18 rfl rfl)
theorem dX9_strongOf_21 : decode cX9_strongOf 21 = .ok (.iload_n 2, 1) := dk_28 (dk_at dksX9_strongOf_0 21 rfl rfl)
theorem dX9_strongOf_22 : decode cX9_strongOf 22 = .ok (.aload_n 0, 1) := dk_42 (dk_at dksX9_strongOf_0 22 rfl rfl)
theorem dX9_strongOf_23 : decode cX9_strongOf 23 = .ok (.getfield 9, 3) := dk_180 0 9 (dk_at dksX9_strongOf_1 0 rfl rfl)
theorem dX9_strongOf_26 : decode cX9_strongOf 26 = .ok (.iload_n 3, 1) := dk_29 (dk_at dksX9_strongOf_1 3 rfl rfl)
theorem dX9_strongOf_27 : decode cX9_strongOf 27 = .ok (.iaload, 1) := dk_46 (dk_at dksX9_strongOf_1 4 rfl rfl)
theorem dX9_strongOf_28 : decode cX9_strongOf 28 = .ok (.iadd, 1) := dk_96 (dk_at dksX9_strongOf_1 5 rfl rfl)
theorem dX9_strongOf_29 : decode cX9_strongOf 29 = .ok (.istore_n 2, 1) := dk_61 (dk_at dksX9_strongOf_1 6 rfl rfl)
theorem dX9_strongOf_30 : decode cX9_strongOf 30 = .ok (.iinc 3 1, 3) := dk_132 3 1 (dk_at dksX9_strongOf_1 7 rfl rfl)
theorem dX9_strongOf_33 : decode cX9_strongOf 33 = .ok (.goto (-29), 3) := dk_167 255 227 (dk_at dksX9_strongOf_1 10 rfl rfl)
theorem dX9_strongOf_36 : decode cX9_strongOf 36 = .ok (.iload_n 2, 1) := dk_28 (dk_at dksX9_strongOf_1 13 rfl rfl)
theorem dX9_strongOf_37 : decode cX9_strongOf 37 = .ok (.ireturn, 1) := dk_172 (dk_at dksX9_strongOf_1 14 rfl rfl)
abbrev cX9_isRain : ByteArray := prog_10_method_2_code
def yX9_isRain : MethodName := ⟨RX9, "isRain", "(I)Z"⟩
def dkwX9_isRain_1 : List UInt8 := [180, 0, 33, 28, 46, 163, 0, 5, 4, 172, 132, 2, 1, 167, 255, 223, 3, 172]
abbrev dktX9_isRain_1 : List UInt8 := dkwX9_isRain_1 ++ []
def dkwX9_isRain_0 : List UInt8 := [3, 61, 28, 42, 180, 0, 66, 162, 0, 31, 27, 42, 180, 0, 30, 28, 46, 161, 0, 15, 27, 42]
abbrev dktX9_isRain_0 : List UInt8 := dkwX9_isRain_0 ++ dktX9_isRain_1
theorem dksX9_isRain_0 : cX9_isRain.data.toList.drop 0 = dktX9_isRain_0 := by decide +kernel
theorem dksX9_isRain_1 : cX9_isRain.data.toList.drop 22 = dktX9_isRain_1 := dk_seg dksX9_isRain_0 22 rfl rfl
theorem dX9_isRain_0 : decode cX9_isRain 0 = .ok (.iconst 0, 1) := dk_3 (dk_at dksX9_isRain_0 0 rfl rfl)
theorem dX9_isRain_1 : decode cX9_isRain 1 = .ok (.istore_n 2, 1) := dk_61 (dk_at dksX9_isRain_0 1 rfl rfl)
theorem dX9_isRain_2 : decode cX9_isRain 2 = .ok (.iload_n 2, 1) := dk_28 (dk_at dksX9_isRain_0 2 rfl rfl)
theorem dX9_isRain_3 : decode cX9_isRain 3 = .ok (.aload_n 0, 1) := dk_42 (dk_at dksX9_isRain_0 3 rfl rfl)
theorem dX9_isRain_4 : decode cX9_isRain 4 = .ok (.getfield 66, 3) := dk_180 0 66 (dk_at dksX9_isRain_0 4 rfl rfl)
theorem dX9_isRain_7 : decode cX9_isRain 7 = .ok (.if_icmp .ge 31, 3) := dk_162 0 31 (dk_at dksX9_isRain_0 7 rfl rfl)
theorem dX9_isRain_10 : decode cX9_isRain 10 = .ok (.iload_n 1, 1) := dk_27 (dk_at dksX9_isRain_0 10 rfl rfl)
theorem dX9_isRain_11 : decode cX9_isRain 11 = .ok (.aload_n 0, 1) := dk_42 (dk_at dksX9_isRain_0 11 rfl rfl)
theorem dX9_isRain_12 : decode cX9_isRain 12 = .ok (.getfield 30, 3) := dk_180 0 30 (dk_at dksX9_isRain_0 12 rfl rfl)
theorem dX9_isRain_15 : decode cX9_isRain 15 = .ok (.iload_n 2, 1) := dk_28 (dk_at dksX9_isRain_0 15 rfl rfl)
theorem dX9_isRain_16 : decode cX9_isRain 16 = .ok (.iaload, 1) := dk_46 (dk_at dksX9_isRain_0 16 rfl rfl)
theorem dX9_isRain_17 : decode cX9_isRain 17 = .ok (.if_icmp .lt 15, 3) := dk_161 0 15 (dk_at dksX9_isRain_0 17 rfl rfl)
theorem dX9_isRain_20 : decode cX9_isRain 20 = .ok (.iload_n 1, 1) := dk_27 (dk_at dksX9_isRain_0 20 rfl rfl)
theorem dX9_isRain_21 : decode cX9_isRain 21 = .ok (.aload_n 0, 1) := dk_42 (dk_at dksX9_isRain_0 21 rfl rfl)
theorem dX9_isRain_22 : decode cX9_isRain 22 = .ok (.getfield 33, 3) := dk_180 0 33 (dk_at dksX9_isRain_1 0 rfl rfl)
theorem dX9_isRain_25 : decode cX9_isRain 25 = .ok (.iload_n 2, 1) := dk_28 (dk_at dksX9_isRain_1 3 rfl rfl)
theorem dX9_isRain_26 : decode cX9_isRain 26 = .ok (.iaload, 1) := dk_46 (dk_at dksX9_isRain_1 4 rfl rfl)
theorem dX9_isRain_27 : decode cX9_isRain 27 = .ok (.if_icmp .gt 5, 3) := dk_163 0 5 (dk_at dksX9_isRain_1 5 rfl rfl)
theorem dX9_isRain_30 : decode cX9_isRain 30 = .ok (.iconst 1, 1) := dk_4 (dk_at dksX9_isRain_1 8 rfl rfl)
theorem dX9_isRain_31 : decode cX9_isRain 31 = .ok (.ireturn, 1) := dk_172 (dk_at dksX9_isRain_1 9 rfl rfl)
theorem dX9_isRain_32 : decode cX9_isRain 32 = .ok (.iinc 2 1, 3) := dk_132 2 1 (dk_at dksX9_isRain_1 10 rfl rfl)
theorem dX9_isRain_35 : decode cX9_isRain 35 = .ok (.goto (-33), 3) := dk_167 255 223 (dk_at dksX9_isRain_1 13 rfl rfl)
theorem dX9_isRain_38 : decode cX9_isRain 38 = .ok (.iconst 0, 1) := dk_3 (dk_at dksX9_isRain_1 16 rfl rfl)
theorem dX9_isRain_39 : decode cX9_isRain 39 = .ok (.ireturn, 1) := dk_172 (dk_at dksX9_isRain_1 17 rfl rfl)
abbrev cX9_rainIn : ByteArray := prog_10_method_3_code
def yX9_rainIn : MethodName := ⟨RX9, "rainIn", "(II)I"⟩
def dkwX9_rainIn_1 : List UInt8 := [182, 0, 69, 153, 0, 6, 132, 3, 1, 132, 4, 1, 167, 255, 227, 29, 172]
abbrev dktX9_rainIn_1 : List UInt8 := dkwX9_rainIn_1 ++ []
def dkwX9_rainIn_0 : List UInt8 := [3, 62, 27, 54, 4, 21, 4, 28, 162, 0, 29, 21, 4, 17, 0, 240, 163, 0, 21, 42, 21, 4]
abbrev dktX9_rainIn_0 : List UInt8 := dkwX9_rainIn_0 ++ dktX9_rainIn_1
theorem dksX9_rainIn_0 : cX9_rainIn.data.toList.drop 0 = dktX9_rainIn_0 := by decide +kernel
theorem dksX9_rainIn_1 : cX9_rainIn.data.toList.drop 22 = dktX9_rainIn_1 := dk_seg dksX9_rainIn_0 22 rfl rfl
theorem dX9_rainIn_0 : decode cX9_rainIn 0 = .ok (.iconst 0, 1) := dk_3 (dk_at dksX9_rainIn_0 0 rfl rfl)
theorem dX9_rainIn_1 : decode cX9_rainIn 1 = .ok (.istore_n 3, 1) := dk_62 (dk_at dksX9_rainIn_0 1 rfl rfl)
theorem dX9_rainIn_2 : decode cX9_rainIn 2 = .ok (.iload_n 1, 1) := dk_27 (dk_at dksX9_rainIn_0 2 rfl rfl)
theorem dX9_rainIn_3 : decode cX9_rainIn 3 = .ok (.istore 4, 2) := dk_54 4 (dk_at dksX9_rainIn_0 3 rfl rfl)
theorem dX9_rainIn_5 : decode cX9_rainIn 5 = .ok (.iload 4, 2) := dk_21 4 (dk_at dksX9_rainIn_0 5 rfl rfl)
theorem dX9_rainIn_7 : decode cX9_rainIn 7 = .ok (.iload_n 2, 1) := dk_28 (dk_at dksX9_rainIn_0 7 rfl rfl)
theorem dX9_rainIn_8 : decode cX9_rainIn 8 = .ok (.if_icmp .ge 29, 3) := dk_162 0 29 (dk_at dksX9_rainIn_0 8 rfl rfl)
theorem dX9_rainIn_11 : decode cX9_rainIn 11 = .ok (.iload 4, 2) := dk_21 4 (dk_at dksX9_rainIn_0 11 rfl rfl)
theorem dX9_rainIn_13 : decode cX9_rainIn 13 = .ok (.sipush 240, 3) := dk_17 0 240 (dk_at dksX9_rainIn_0 13 rfl rfl)
theorem dX9_rainIn_16 : decode cX9_rainIn 16 = .ok (.if_icmp .gt 21, 3) := dk_163 0 21 (dk_at dksX9_rainIn_0 16 rfl rfl)
theorem dX9_rainIn_19 : decode cX9_rainIn 19 = .ok (.aload_n 0, 1) := dk_42 (dk_at dksX9_rainIn_0 19 rfl rfl)
theorem dX9_rainIn_20 : decode cX9_rainIn 20 = .ok (.iload 4, 2) := dk_21 4 (dk_at dksX9_rainIn_0 20 rfl rfl)
theorem dX9_rainIn_22 : decode cX9_rainIn 22 = .ok (.invokevirtual 69, 3) := dk_182 0 69 (dk_at dksX9_rainIn_1 0 rfl rfl)
theorem dX9_rainIn_25 : decode cX9_rainIn 25 = .ok (.ifCond .eq 6, 3) := dk_153 0 6 (dk_at dksX9_rainIn_1 3 rfl rfl)
theorem dX9_rainIn_28 : decode cX9_rainIn 28 = .ok (.iinc 3 1, 3) := dk_132 3 1 (dk_at dksX9_rainIn_1 6 rfl rfl)
theorem dX9_rainIn_31 : decode cX9_rainIn 31 = .ok (.iinc 4 1, 3) := dk_132 4 1 (dk_at dksX9_rainIn_1 9 rfl rfl)
theorem dX9_rainIn_34 : decode cX9_rainIn 34 = .ok (.goto (-29), 3) := dk_167 255 227 (dk_at dksX9_rainIn_1 12 rfl rfl)
theorem dX9_rainIn_37 : decode cX9_rainIn 37 = .ok (.iload_n 3, 1) := dk_29 (dk_at dksX9_rainIn_1 15 rfl rfl)
theorem dX9_rainIn_38 : decode cX9_rainIn 38 = .ok (.ireturn, 1) := dk_172 (dk_at dksX9_rainIn_1 16 rfl rfl)
abbrev cX9_ahead : ByteArray := prog_10_method_6_code
def yX9_ahead : MethodName := ⟨RX9, "ahead", "(I)I"⟩
def dkwX9_ahead_1 : List UInt8 := [28, 42, 180, 0, 27, 29, 46, 128, 61, 132, 3, 255, 167, 255, 231, 28, 172]
abbrev dktX9_ahead_1 : List UInt8 := dkwX9_ahead_1 ++ []
def dkwX9_ahead_0 : List UInt8 := [42, 180, 0, 27, 27, 46, 61, 27, 4, 100, 62, 29, 155, 0, 27, 28, 29, 122, 4, 126, 4, 160, 0, 12]
abbrev dktX9_ahead_0 : List UInt8 := dkwX9_ahead_0 ++ dktX9_ahead_1
theorem dksX9_ahead_0 : cX9_ahead.data.toList.drop 0 = dktX9_ahead_0 := by decide +kernel
theorem dksX9_ahead_1 : cX9_ahead.data.toList.drop 24 = dktX9_ahead_1 := dk_seg dksX9_ahead_0 24 rfl rfl
theorem dX9_ahead_0 : decode cX9_ahead 0 = .ok (.aload_n 0, 1) := dk_42 (dk_at dksX9_ahead_0 0 rfl rfl)
theorem dX9_ahead_1 : decode cX9_ahead 1 = .ok (.getfield 27, 3) := dk_180 0 27 (dk_at dksX9_ahead_0 1 rfl rfl)
theorem dX9_ahead_4 : decode cX9_ahead 4 = .ok (.iload_n 1, 1) := dk_27 (dk_at dksX9_ahead_0 4 rfl rfl)
theorem dX9_ahead_5 : decode cX9_ahead 5 = .ok (.iaload, 1) := dk_46 (dk_at dksX9_ahead_0 5 rfl rfl)
theorem dX9_ahead_6 : decode cX9_ahead 6 = .ok (.istore_n 2, 1) := dk_61 (dk_at dksX9_ahead_0 6 rfl rfl)
theorem dX9_ahead_7 : decode cX9_ahead 7 = .ok (.iload_n 1, 1) := dk_27 (dk_at dksX9_ahead_0 7 rfl rfl)
theorem dX9_ahead_8 : decode cX9_ahead 8 = .ok (.iconst 1, 1) := dk_4 (dk_at dksX9_ahead_0 8 rfl rfl)
theorem dX9_ahead_9 : decode cX9_ahead 9 = .ok (.isub, 1) := dk_100 (dk_at dksX9_ahead_0 9 rfl rfl)
theorem dX9_ahead_10 : decode cX9_ahead 10 = .ok (.istore_n 3, 1) := dk_62 (dk_at dksX9_ahead_0 10 rfl rfl)
theorem dX9_ahead_11 : decode cX9_ahead 11 = .ok (.iload_n 3, 1) := dk_29 (dk_at dksX9_ahead_0 11 rfl rfl)
theorem dX9_ahead_12 : decode cX9_ahead 12 = .ok (.ifCond .lt 27, 3) := dk_155 0 27 (dk_at dksX9_ahead_0 12 rfl rfl)
theorem dX9_ahead_15 : decode cX9_ahead 15 = .ok (.iload_n 2, 1) := dk_28 (dk_at dksX9_ahead_0 15 rfl rfl)
theorem dX9_ahead_16 : decode cX9_ahead 16 = .ok (.iload_n 3, 1) := dk_29 (dk_at dksX9_ahead_0 16 rfl rfl)
theorem dX9_ahead_17 : decode cX9_ahead 17 = .ok (.ishr, 1) := dk_122 (dk_at dksX9_ahead_0 17 rfl rfl)
theorem dX9_ahead_18 : decode cX9_ahead 18 = .ok (.iconst 1, 1) := dk_4 (dk_at dksX9_ahead_0 18 rfl rfl)
theorem dX9_ahead_19 : decode cX9_ahead 19 = .ok (.iand, 1) := dk_126 (dk_at dksX9_ahead_0 19 rfl rfl)
theorem dX9_ahead_20 : decode cX9_ahead 20 = .ok (.iconst 1, 1) := dk_4 (dk_at dksX9_ahead_0 20 rfl rfl)
theorem dX9_ahead_21 : decode cX9_ahead 21 = .ok (.if_icmp .ne 12, 3) := dk_160 0 12 (dk_at dksX9_ahead_0 21 rfl rfl)
theorem dX9_ahead_24 : decode cX9_ahead 24 = .ok (.iload_n 2, 1) := dk_28 (dk_at dksX9_ahead_1 0 rfl rfl)
theorem dX9_ahead_25 : decode cX9_ahead 25 = .ok (.aload_n 0, 1) := dk_42 (dk_at dksX9_ahead_1 1 rfl rfl)
theorem dX9_ahead_26 : decode cX9_ahead 26 = .ok (.getfield 27, 3) := dk_180 0 27 (dk_at dksX9_ahead_1 2 rfl rfl)
theorem dX9_ahead_29 : decode cX9_ahead 29 = .ok (.iload_n 3, 1) := dk_29 (dk_at dksX9_ahead_1 5 rfl rfl)
theorem dX9_ahead_30 : decode cX9_ahead 30 = .ok (.iaload, 1) := dk_46 (dk_at dksX9_ahead_1 6 rfl rfl)
theorem dX9_ahead_31 : decode cX9_ahead 31 = .ok (.ior, 1) := dk_128 (dk_at dksX9_ahead_1 7 rfl rfl)
theorem dX9_ahead_32 : decode cX9_ahead 32 = .ok (.istore_n 2, 1) := dk_61 (dk_at dksX9_ahead_1 8 rfl rfl)
theorem dX9_ahead_33 : decode cX9_ahead 33 = .ok (.iinc 3 (-1), 3) := dk_132 3 255 (dk_at dksX9_ahead_1 9 rfl rfl)
theorem dX9_ahead_36 : decode cX9_ahead 36 = .ok (.goto (-25), 3) := dk_167 255 231 (dk_at dksX9_ahead_1 12 rfl rfl)
theorem dX9_ahead_39 : decode cX9_ahead 39 = .ok (.iload_n 2, 1) := dk_28 (dk_at dksX9_ahead_1 15 rfl rfl)
theorem dX9_ahead_40 : decode cX9_ahead 40 = .ok (.ireturn, 1) := dk_172 (dk_at dksX9_ahead_1 16 rfl rfl)
abbrev cX9_chain : ByteArray := prog_10_method_7_code
def yX9_chain : MethodName := ⟨RX9, "chain", "(I)I"⟩
def dkwX9_chain_1 : List UInt8 := [42, 29, 182, 0, 85, 184, 0, 88, 61, 132, 3, 1, 167, 255, 224, 28, 42, 180, 0, 15, 27, 46, 96, 172]
abbrev dktX9_chain_1 : List UInt8 := dkwX9_chain_1 ++ []
def dkwX9_chain_0 : List UInt8 := [3, 61, 3, 62, 29, 27, 162, 0, 33, 42, 180, 0, 27, 27, 46, 29, 122, 4, 126, 4, 160, 0, 13, 28]
abbrev dktX9_chain_0 : List UInt8 := dkwX9_chain_0 ++ dktX9_chain_1
theorem dksX9_chain_0 : cX9_chain.data.toList.drop 0 = dktX9_chain_0 := by decide +kernel
theorem dksX9_chain_1 : cX9_chain.data.toList.drop 24 = dktX9_chain_1 := dk_seg dksX9_chain_0 24 rfl rfl
theorem dX9_chain_0 : decode cX9_chain 0 = .ok (.iconst 0, 1) := dk_3 (dk_at dksX9_chain_0 0 rfl rfl)
theorem dX9_chain_1 : decode cX9_chain 1 = .ok (.istore_n 2, 1) := dk_61 (dk_at dksX9_chain_0 1 rfl rfl)
theorem dX9_chain_2 : decode cX9_chain 2 = .ok (.iconst 0, 1) := dk_3 (dk_at dksX9_chain_0 2 rfl rfl)
theorem dX9_chain_3 : decode cX9_chain 3 = .ok (.istore_n 3, 1) := dk_62 (dk_at dksX9_chain_0 3 rfl rfl)
theorem dX9_chain_4 : decode cX9_chain 4 = .ok (.iload_n 3, 1) := dk_29 (dk_at dksX9_chain_0 4 rfl rfl)
theorem dX9_chain_5 : decode cX9_chain 5 = .ok (.iload_n 1, 1) := dk_27 (dk_at dksX9_chain_0 5 rfl rfl)
theorem dX9_chain_6 : decode cX9_chain 6 = .ok (.if_icmp .ge 33, 3) := dk_162 0 33 (dk_at dksX9_chain_0 6 rfl rfl)
theorem dX9_chain_9 : decode cX9_chain 9 = .ok (.aload_n 0, 1) := dk_42 (dk_at dksX9_chain_0 9 rfl rfl)
theorem dX9_chain_10 : decode cX9_chain 10 = .ok (.getfield 27, 3) := dk_180 0 27 (dk_at dksX9_chain_0 10 rfl rfl)
theorem dX9_chain_13 : decode cX9_chain 13 = .ok (.iload_n 1, 1) := dk_27 (dk_at dksX9_chain_0 13 rfl rfl)
theorem dX9_chain_14 : decode cX9_chain 14 = .ok (.iaload, 1) := dk_46 (dk_at dksX9_chain_0 14 rfl rfl)
theorem dX9_chain_15 : decode cX9_chain 15 = .ok (.iload_n 3, 1) := dk_29 (dk_at dksX9_chain_0 15 rfl rfl)
theorem dX9_chain_16 : decode cX9_chain 16 = .ok (.ishr, 1) := dk_122 (dk_at dksX9_chain_0 16 rfl rfl)
theorem dX9_chain_17 : decode cX9_chain 17 = .ok (.iconst 1, 1) := dk_4 (dk_at dksX9_chain_0 17 rfl rfl)
theorem dX9_chain_18 : decode cX9_chain 18 = .ok (.iand, 1) := dk_126 (dk_at dksX9_chain_0 18 rfl rfl)
theorem dX9_chain_19 : decode cX9_chain 19 = .ok (.iconst 1, 1) := dk_4 (dk_at dksX9_chain_0 19 rfl rfl)
theorem dX9_chain_20 : decode cX9_chain 20 = .ok (.if_icmp .ne 13, 3) := dk_160 0 13 (dk_at dksX9_chain_0 20 rfl rfl)
theorem dX9_chain_23 : decode cX9_chain 23 = .ok (.iload_n 2, 1) := dk_28 (dk_at dksX9_chain_0 23 rfl rfl)
theorem dX9_chain_24 : decode cX9_chain 24 = .ok (.aload_n 0, 1) := dk_42 (dk_at dksX9_chain_1 0 rfl rfl)
theorem dX9_chain_25 : decode cX9_chain 25 = .ok (.iload_n 3, 1) := dk_29 (dk_at dksX9_chain_1 1 rfl rfl)
theorem dX9_chain_26 : decode cX9_chain 26 = .ok (.invokevirtual 85, 3) := dk_182 0 85 (dk_at dksX9_chain_1 2 rfl rfl)
theorem dX9_chain_29 : decode cX9_chain 29 = .ok (.invokestatic 88, 3) := dk_184 0 88 (dk_at dksX9_chain_1 5 rfl rfl)
theorem dX9_chain_32 : decode cX9_chain 32 = .ok (.istore_n 2, 1) := dk_61 (dk_at dksX9_chain_1 8 rfl rfl)
theorem dX9_chain_33 : decode cX9_chain 33 = .ok (.iinc 3 1, 3) := dk_132 3 1 (dk_at dksX9_chain_1 9 rfl rfl)
theorem dX9_chain_36 : decode cX9_chain 36 = .ok (.goto (-32), 3) := dk_167 255 224 (dk_at dksX9_chain_1 12 rfl rfl)
theorem dX9_chain_39 : decode cX9_chain 39 = .ok (.iload_n 2, 1) := dk_28 (dk_at dksX9_chain_1 15 rfl rfl)
theorem dX9_chain_40 : decode cX9_chain 40 = .ok (.aload_n 0, 1) := dk_42 (dk_at dksX9_chain_1 16 rfl rfl)
theorem dX9_chain_41 : decode cX9_chain 41 = .ok (.getfield 15, 3) := dk_180 0 15 (dk_at dksX9_chain_1 17 rfl rfl)
theorem dX9_chain_44 : decode cX9_chain 44 = .ok (.iload_n 1, 1) := dk_27 (dk_at dksX9_chain_1 20 rfl rfl)
theorem dX9_chain_45 : decode cX9_chain 45 = .ok (.iaload, 1) := dk_46 (dk_at dksX9_chain_1 21 rfl rfl)
theorem dX9_chain_46 : decode cX9_chain 46 = .ok (.iadd, 1) := dk_96 (dk_at dksX9_chain_1 22 rfl rfl)
theorem dX9_chain_47 : decode cX9_chain 47 = .ok (.ireturn, 1) := dk_172 (dk_at dksX9_chain_1 23 rfl rfl)
abbrev cX9_sinks : ByteArray := prog_10_method_8_code
def yX9_sinks : MethodName := ⟨RX9, "sinks", "(III)I"⟩
def dkwX9_sinks_2 : List UInt8 := [180, 0, 53, 21, 4, 108, 42, 180, 0, 36, 27, 46, 100, 184, 0, 88, 104, 172]
abbrev dktX9_sinks_2 : List UInt8 := dkwX9_sinks_2 ++ []
def dkwX9_sinks_1 : List UInt8 := [160, 0, 15, 21, 4, 42, 180, 0, 39, 21, 5, 46, 96, 54, 4, 132, 5, 1, 167, 255, 222, 29, 3, 42]
abbrev dktX9_sinks_1 : List UInt8 := dkwX9_sinks_1 ++ dktX9_sinks_2
def dkwX9_sinks_0 : List UInt8 := [4, 54, 4, 3, 54, 5, 21, 5, 42, 180, 0, 94, 162, 0, 31, 28, 21, 5, 122, 4, 126, 4]
abbrev dktX9_sinks_0 : List UInt8 := dkwX9_sinks_0 ++ dktX9_sinks_1
theorem dksX9_sinks_0 : cX9_sinks.data.toList.drop 0 = dktX9_sinks_0 := by decide +kernel
theorem dksX9_sinks_1 : cX9_sinks.data.toList.drop 22 = dktX9_sinks_1 := dk_seg dksX9_sinks_0 22 rfl rfl
theorem dksX9_sinks_2 : cX9_sinks.data.toList.drop 46 = dktX9_sinks_2 := dk_seg dksX9_sinks_1 24 rfl rfl
theorem dX9_sinks_0 : decode cX9_sinks 0 = .ok (.iconst 1, 1) := dk_4 (dk_at dksX9_sinks_0 0 rfl rfl)
theorem dX9_sinks_1 : decode cX9_sinks 1 = .ok (.istore 4, 2) := dk_54 4 (dk_at dksX9_sinks_0 1 rfl rfl)
theorem dX9_sinks_3 : decode cX9_sinks 3 = .ok (.iconst 0, 1) := dk_3 (dk_at dksX9_sinks_0 3 rfl rfl)
theorem dX9_sinks_4 : decode cX9_sinks 4 = .ok (.istore 5, 2) := dk_54 5 (dk_at dksX9_sinks_0 4 rfl rfl)
theorem dX9_sinks_6 : decode cX9_sinks 6 = .ok (.iload 5, 2) := dk_21 5 (dk_at dksX9_sinks_0 6 rfl rfl)
theorem dX9_sinks_8 : decode cX9_sinks 8 = .ok (.aload_n 0, 1) := dk_42 (dk_at dksX9_sinks_0 8 rfl rfl)
theorem dX9_sinks_9 : decode cX9_sinks 9 = .ok (.getfield 94, 3) := dk_180 0 94 (dk_at dksX9_sinks_0 9 rfl rfl)
theorem dX9_sinks_12 : decode cX9_sinks 12 = .ok (.if_icmp .ge 31, 3) := dk_162 0 31 (dk_at dksX9_sinks_0 12 rfl rfl)
theorem dX9_sinks_15 : decode cX9_sinks 15 = .ok (.iload_n 2, 1) := dk_28 (dk_at dksX9_sinks_0 15 rfl rfl)
theorem dX9_sinks_16 : decode cX9_sinks 16 = .ok (.iload 5, 2) := dk_21 5 (dk_at dksX9_sinks_0 16 rfl rfl)
theorem dX9_sinks_18 : decode cX9_sinks 18 = .ok (.ishr, 1) := dk_122 (dk_at dksX9_sinks_0 18 rfl rfl)
theorem dX9_sinks_19 : decode cX9_sinks 19 = .ok (.iconst 1, 1) := dk_4 (dk_at dksX9_sinks_0 19 rfl rfl)
theorem dX9_sinks_20 : decode cX9_sinks 20 = .ok (.iand, 1) := dk_126 (dk_at dksX9_sinks_0 20 rfl rfl)
theorem dX9_sinks_21 : decode cX9_sinks 21 = .ok (.iconst 1, 1) := dk_4 (dk_at dksX9_sinks_0 21 rfl rfl)
theorem dX9_sinks_22 : decode cX9_sinks 22 = .ok (.if_icmp .ne 15, 3) := dk_160 0 15 (dk_at dksX9_sinks_1 0 rfl rfl)
theorem dX9_sinks_25 : decode cX9_sinks 25 = .ok (.iload 4, 2) := dk_21 4 (dk_at dksX9_sinks_1 3 rfl rfl)
theorem dX9_sinks_27 : decode cX9_sinks 27 = .ok (.aload_n 0, 1) := dk_42 (dk_at dksX9_sinks_1 5 rfl rfl)
theorem dX9_sinks_28 : decode cX9_sinks 28 = .ok (.getfield 39, 3) := dk_180 0 39 (dk_at dksX9_sinks_1 6 rfl rfl)
theorem dX9_sinks_31 : decode cX9_sinks 31 = .ok (.iload 5, 2) := dk_21 5 (dk_at dksX9_sinks_1 9 rfl rfl)
theorem dX9_sinks_33 : decode cX9_sinks 33 = .ok (.iaload, 1) := dk_46 (dk_at dksX9_sinks_1 11 rfl rfl)
theorem dX9_sinks_34 : decode cX9_sinks 34 = .ok (.iadd, 1) := dk_96 (dk_at dksX9_sinks_1 12 rfl rfl)
theorem dX9_sinks_35 : decode cX9_sinks 35 = .ok (.istore 4, 2) := dk_54 4 (dk_at dksX9_sinks_1 13 rfl rfl)
theorem dX9_sinks_37 : decode cX9_sinks 37 = .ok (.iinc 5 1, 3) := dk_132 5 1 (dk_at dksX9_sinks_1 15 rfl rfl)
theorem dX9_sinks_40 : decode cX9_sinks 40 = .ok (.goto (-34), 3) := dk_167 255 222 (dk_at dksX9_sinks_1 18 rfl rfl)
theorem dX9_sinks_43 : decode cX9_sinks 43 = .ok (.iload_n 3, 1) := dk_29 (dk_at dksX9_sinks_1 21 rfl rfl)
theorem dX9_sinks_44 : decode cX9_sinks 44 = .ok (.iconst 0, 1) := dk_3 (dk_at dksX9_sinks_1 22 rfl rfl)
theorem dX9_sinks_45 : decode cX9_sinks 45 = .ok (.aload_n 0, 1) := dk_42 (dk_at dksX9_sinks_1 23 rfl rfl)
theorem dX9_sinks_46 : decode cX9_sinks 46 = .ok (.getfield 53, 3) := dk_180 0 53 (dk_at dksX9_sinks_2 0 rfl rfl)
theorem dX9_sinks_49 : decode cX9_sinks 49 = .ok (.iload 4, 2) := dk_21 4 (dk_at dksX9_sinks_2 3 rfl rfl)
theorem dX9_sinks_51 : decode cX9_sinks 51 = .ok (.idiv, 1) := dk_108 (dk_at dksX9_sinks_2 5 rfl rfl)
theorem dX9_sinks_52 : decode cX9_sinks 52 = .ok (.aload_n 0, 1) := dk_42 (dk_at dksX9_sinks_2 6 rfl rfl)
theorem dX9_sinks_53 : decode cX9_sinks 53 = .ok (.getfield 36, 3) := dk_180 0 36 (dk_at dksX9_sinks_2 7 rfl rfl)
theorem dX9_sinks_56 : decode cX9_sinks 56 = .ok (.iload_n 1, 1) := dk_27 (dk_at dksX9_sinks_2 10 rfl rfl)
theorem dX9_sinks_57 : decode cX9_sinks 57 = .ok (.iaload, 1) := dk_46 (dk_at dksX9_sinks_2 11 rfl rfl)
theorem dX9_sinks_58 : decode cX9_sinks 58 = .ok (.isub, 1) := dk_100 (dk_at dksX9_sinks_2 12 rfl rfl)
theorem dX9_sinks_59 : decode cX9_sinks 59 = .ok (.invokestatic 88, 3) := dk_184 0 88 (dk_at dksX9_sinks_2 13 rfl rfl)
theorem dX9_sinks_62 : decode cX9_sinks 62 = .ok (.imul, 1) := dk_104 (dk_at dksX9_sinks_2 16 rfl rfl)
theorem dX9_sinks_63 : decode cX9_sinks 63 = .ok (.ireturn, 1) := dk_172 (dk_at dksX9_sinks_2 17 rfl rfl)
theorem q104 : (Jvm.Cond.initialized "RainWheel$Road") ∈ lw_all := lw_g (lw_at lw_m1 9 rfl) rfl
theorem q348 : (Jvm.Cond.instantiable "RainWheel$Road" (24 : Nat)) ∈ lw_all := lw_g (lw_at lw_m2 13 rfl) rfl
theorem q350 : (Jvm.Cond.instanceMethod ({ cls := "RainWheel$Road", name := "<init>", desc := "()V" } : Jvm.MethodName)) ∈ lw_all := lw_g (lw_at lw_m2 15 rfl) rfl
theorem q351 : (Jvm.Cond.code ({ cls := "RainWheel$Road", name := "<init>", desc := "()V" } : Jvm.MethodName) prog_10_method_1_code (2 : Nat) (Option.none : Option Jvm.ClassFile.FieldType)) ∈ lw_all := lw_g (lw_at lw_m2 16 rfl) rfl
theorem q352 : (Jvm.Cond.methodLink "RainWheel$Road" (3 : Nat) ({ cls := "java/lang/Object", name := "<init>", desc := "()V" } : Jvm.MethodName)) ∈ lw_all := lw_g (lw_at lw_m2 17 rfl) rfl
theorem q353 : (Jvm.Cond.classLink "RainWheel$Road" (48 : Nat) "[[I") ∈ lw_all := lw_g (lw_at lw_m2 18 rfl) rfl
theorem q355 : (Jvm.Cond.fieldLink "RainWheel$Road" (9 : Nat) "RainWheel$Road" "strong" "[I") ∈ lw_all := lw_g (lw_at lw_m2 20 rfl) rfl
theorem q358 : (Jvm.Cond.fieldLink "RainWheel$Road" (15 : Nat) "RainWheel$Road" "minutes" "[I") ∈ lw_all := lw_g (lw_at lw_m2 23 rfl) rfl
theorem q362 : (Jvm.Cond.fieldLink "RainWheel$Road" (18 : Nat) "RainWheel$Road" "out" "[I") ∈ lw_all := lw_g (lw_at lw_m2 27 rfl) rfl
theorem q366 : (Jvm.Cond.fieldLink "RainWheel$Road" (21 : Nat) "RainWheel$Road" "hands" "[I") ∈ lw_all := lw_g (lw_at lw_m2 31 rfl) rfl
theorem q370 : (Jvm.Cond.fieldLink "RainWheel$Road" (24 : Nat) "RainWheel$Road" "strength" "[I") ∈ lw_all := lw_g (lw_at lw_m2 35 rfl) rfl
theorem q373 : (Jvm.Cond.fieldLink "RainWheel$Road" (27 : Nat) "RainWheel$Road" "needs" "[I") ∈ lw_all := lw_g (lw_at lw_m2 38 rfl) rfl
theorem q377 : (Jvm.Cond.fieldLink "RainWheel$Road" (30 : Nat) "RainWheel$Road" "from" "[I") ∈ lw_all := lw_g (lw_at lw_m2 42 rfl) rfl
theorem q379 : (Jvm.Cond.fieldLink "RainWheel$Road" (33 : Nat) "RainWheel$Road" "to" "[I") ∈ lw_all := lw_g (lw_at lw_m2 44 rfl) rfl
theorem q381 : (Jvm.Cond.fieldLink "RainWheel$Road" (36 : Nat) "RainWheel$Road" "bears" "[I") ∈ lw_all := lw_g (lw_at lw_m2 46 rfl) rfl
theorem q384 : (Jvm.Cond.fieldLink "RainWheel$Road" (39 : Nat) "RainWheel$Road" "broad" "[I") ∈ lw_all := lw_g (lw_at lw_m2 49 rfl) rfl
theorem q386 : (Jvm.Cond.fieldLink "RainWheel$Road" (42 : Nat) "RainWheel$Road" "rust" "[I") ∈ lw_all := lw_g (lw_at lw_m2 51 rfl) rfl
theorem q389 : (Jvm.Cond.fieldLink "RainWheel$Road" (45 : Nat) "RainWheel$Road" "likely" "[I") ∈ lw_all := lw_g (lw_at lw_m2 54 rfl) rfl
theorem q392 : (Jvm.Cond.fieldLink "RainWheel$Road" (50 : Nat) "RainWheel$Road" "shows" "[[I") ∈ lw_all := lw_g (lw_at lw_m2 57 rfl) rfl
theorem q397 : (Jvm.Cond.fieldLink "RainWheel$Road" (73 : Nat) "RainWheel$Road" "people" "I") ∈ lw_all := lw_g (lw_at lw_m2 62 rfl) rfl
theorem q405 : (Jvm.Cond.fieldLink "RainWheel$Road" (66 : Nat) "RainWheel$Road" "rains" "I") ∈ lw_all := lw_g (lw_at lw_m2 70 rfl) rfl
theorem q408 : (Jvm.Cond.fieldLink "RainWheel$Road" (94 : Nat) "RainWheel$Road" "boards" "I") ∈ lw_all := lw_g (lw_at lw_m2 73 rfl) rfl
theorem q414 : (Jvm.Cond.fieldLink "RainWheel$Road" (53 : Nat) "RainWheel$Road" "load" "I") ∈ lw_all := lw_g (lw_at lw_m2 79 rfl) rfl
theorem q417 : (Jvm.Cond.fieldLink "RainWheel$Road" (57 : Nat) "RainWheel$Road" "stops" "I") ∈ lw_all := lw_g (lw_at lw_m2 82 rfl) rfl
theorem q422 : (Jvm.Cond.fieldLink "RainWheel$Road" (60 : Nat) "RainWheel$Road" "soft" "I") ∈ lw_all := lw_g (lw_at lw_m2 87 rfl) rfl
theorem q425 : (Jvm.Cond.fieldLink "RainWheel$Road" (63 : Nat) "RainWheel$Road" "each" "I") ∈ lw_all := lw_g (lw_at lw_m2 90 rfl) rfl
theorem q428 : (Jvm.Cond.laysFinal "RainWheel$Road" "RainWheel$Road" "strong" "[I") ∈ lw_all := lw_g (lw_at lw_m2 93 rfl) rfl
theorem q429 : (Jvm.Cond.soleField "RainWheel$Road" "strong") ∈ lw_all := lw_g (lw_at lw_m2 94 rfl) rfl
theorem q430 : (Jvm.Cond.laysFinal "RainWheel$Road" "RainWheel$Road" "minutes" "[I") ∈ lw_all := lw_g (lw_at lw_m2 95 rfl) rfl
theorem q431 : (Jvm.Cond.soleField "RainWheel$Road" "minutes") ∈ lw_all := lw_g (lw_at lw_m2 96 rfl) rfl
theorem q432 : (Jvm.Cond.laysFinal "RainWheel$Road" "RainWheel$Road" "out" "[I") ∈ lw_all := lw_g (lw_at lw_m2 97 rfl) rfl
theorem q433 : (Jvm.Cond.soleField "RainWheel$Road" "out") ∈ lw_all := lw_g (lw_at lw_m2 98 rfl) rfl
theorem q434 : (Jvm.Cond.laysFinal "RainWheel$Road" "RainWheel$Road" "hands" "[I") ∈ lw_all := lw_g (lw_at lw_m2 99 rfl) rfl
theorem q435 : (Jvm.Cond.soleField "RainWheel$Road" "hands") ∈ lw_all := lw_g (lw_at lw_m2 100 rfl) rfl
theorem q436 : (Jvm.Cond.laysFinal "RainWheel$Road" "RainWheel$Road" "strength" "[I") ∈ lw_all := lw_g (lw_at lw_m2 101 rfl) rfl
theorem q437 : (Jvm.Cond.soleField "RainWheel$Road" "strength") ∈ lw_all := lw_g (lw_at lw_m2 102 rfl) rfl
theorem q438 : (Jvm.Cond.laysFinal "RainWheel$Road" "RainWheel$Road" "needs" "[I") ∈ lw_all := lw_g (lw_at lw_m2 103 rfl) rfl
theorem q439 : (Jvm.Cond.soleField "RainWheel$Road" "needs") ∈ lw_all := lw_g (lw_at lw_m2 104 rfl) rfl
theorem q440 : (Jvm.Cond.laysFinal "RainWheel$Road" "RainWheel$Road" "from" "[I") ∈ lw_all := lw_g (lw_at lw_m2 105 rfl) rfl
theorem q441 : (Jvm.Cond.soleField "RainWheel$Road" "from") ∈ lw_all := lw_g (lw_at lw_m2 106 rfl) rfl
theorem q442 : (Jvm.Cond.laysFinal "RainWheel$Road" "RainWheel$Road" "to" "[I") ∈ lw_all := lw_g (lw_at lw_m2 107 rfl) rfl
theorem q443 : (Jvm.Cond.soleField "RainWheel$Road" "to") ∈ lw_all := lw_g (lw_at lw_m2 108 rfl) rfl
theorem q444 : (Jvm.Cond.laysFinal "RainWheel$Road" "RainWheel$Road" "bears" "[I") ∈ lw_all := lw_g (lw_at lw_m2 109 rfl) rfl
theorem q445 : (Jvm.Cond.soleField "RainWheel$Road" "bears") ∈ lw_all := lw_g (lw_at lw_m2 110 rfl) rfl
theorem q446 : (Jvm.Cond.laysFinal "RainWheel$Road" "RainWheel$Road" "broad" "[I") ∈ lw_all := lw_g (lw_at lw_m2 111 rfl) rfl
theorem q447 : (Jvm.Cond.soleField "RainWheel$Road" "broad") ∈ lw_all := lw_g (lw_at lw_m2 112 rfl) rfl
theorem q448 : (Jvm.Cond.laysFinal "RainWheel$Road" "RainWheel$Road" "rust" "[I") ∈ lw_all := lw_g (lw_at lw_m2 113 rfl) rfl
theorem q449 : (Jvm.Cond.soleField "RainWheel$Road" "rust") ∈ lw_all := lw_g (lw_at lw_m2 114 rfl) rfl
theorem q450 : (Jvm.Cond.laysFinal "RainWheel$Road" "RainWheel$Road" "likely" "[I") ∈ lw_all := lw_g (lw_at lw_m2 115 rfl) rfl
theorem q451 : (Jvm.Cond.soleField "RainWheel$Road" "likely") ∈ lw_all := lw_g (lw_at lw_m2 116 rfl) rfl
theorem q452 : (Jvm.Cond.laysFinal "RainWheel$Road" "RainWheel$Road" "shows" "[[I") ∈ lw_all := lw_g (lw_at lw_m2 117 rfl) rfl
theorem q453 : (Jvm.Cond.soleField "RainWheel$Road" "shows") ∈ lw_all := lw_g (lw_at lw_m2 118 rfl) rfl
theorem q454 : (Jvm.Cond.lays "RainWheel$Road" "RainWheel$Road" "people" "I") ∈ lw_all := lw_g (lw_at lw_m2 119 rfl) rfl
theorem q455 : (Jvm.Cond.soleField "RainWheel$Road" "people") ∈ lw_all := lw_g (lw_at lw_m2 120 rfl) rfl
theorem q456 : (Jvm.Cond.lays "RainWheel$Road" "RainWheel$Road" "deeds" "I") ∈ lw_all := lw_g (lw_at lw_m2 121 rfl) rfl
theorem q457 : (Jvm.Cond.soleField "RainWheel$Road" "deeds") ∈ lw_all := lw_g (lw_at lw_m2 122 rfl) rfl
theorem q458 : (Jvm.Cond.lays "RainWheel$Road" "RainWheel$Road" "rains" "I") ∈ lw_all := lw_g (lw_at lw_m2 123 rfl) rfl
theorem q459 : (Jvm.Cond.soleField "RainWheel$Road" "rains") ∈ lw_all := lw_g (lw_at lw_m2 124 rfl) rfl
theorem q460 : (Jvm.Cond.lays "RainWheel$Road" "RainWheel$Road" "boards" "I") ∈ lw_all := lw_g (lw_at lw_m2 125 rfl) rfl
theorem q461 : (Jvm.Cond.soleField "RainWheel$Road" "boards") ∈ lw_all := lw_g (lw_at lw_m2 126 rfl) rfl
theorem q462 : (Jvm.Cond.lays "RainWheel$Road" "RainWheel$Road" "nuts" "I") ∈ lw_all := lw_g (lw_at lw_m2 127 rfl) rfl
theorem q463 : (Jvm.Cond.soleField "RainWheel$Road" "nuts") ∈ lw_all := lw_g (lw_at lw_m2 128 rfl) rfl
theorem q464 : (Jvm.Cond.lays "RainWheel$Road" "RainWheel$Road" "causes" "I") ∈ lw_all := lw_g (lw_at lw_m2 129 rfl) rfl
theorem q465 : (Jvm.Cond.soleField "RainWheel$Road" "causes") ∈ lw_all := lw_g (lw_at lw_m2 130 rfl) rfl
theorem q466 : (Jvm.Cond.lays "RainWheel$Road" "RainWheel$Road" "load" "I") ∈ lw_all := lw_g (lw_at lw_m2 131 rfl) rfl
theorem q467 : (Jvm.Cond.soleField "RainWheel$Road" "load") ∈ lw_all := lw_g (lw_at lw_m2 132 rfl) rfl
theorem q468 : (Jvm.Cond.lays "RainWheel$Road" "RainWheel$Road" "stops" "I") ∈ lw_all := lw_g (lw_at lw_m2 133 rfl) rfl
theorem q469 : (Jvm.Cond.soleField "RainWheel$Road" "stops") ∈ lw_all := lw_g (lw_at lw_m2 134 rfl) rfl
theorem q470 : (Jvm.Cond.lays "RainWheel$Road" "RainWheel$Road" "loses" "I") ∈ lw_all := lw_g (lw_at lw_m2 135 rfl) rfl
theorem q471 : (Jvm.Cond.soleField "RainWheel$Road" "loses") ∈ lw_all := lw_g (lw_at lw_m2 136 rfl) rfl
theorem q472 : (Jvm.Cond.lays "RainWheel$Road" "RainWheel$Road" "soft" "I") ∈ lw_all := lw_g (lw_at lw_m2 137 rfl) rfl
theorem q473 : (Jvm.Cond.soleField "RainWheel$Road" "soft") ∈ lw_all := lw_g (lw_at lw_m2 138 rfl) rfl
theorem q474 : (Jvm.Cond.lays "RainWheel$Road" "RainWheel$Road" "each" "I") ∈ lw_all := lw_g (lw_at lw_m2 139 rfl) rfl
theorem q475 : (Jvm.Cond.soleField "RainWheel$Road" "each") ∈ lw_all := lw_g (lw_at lw_m2 140 rfl) rfl
theorem q476 : (Jvm.Cond.superclass "RainWheel$Road" "java/lang/Object") ∈ lw_all := lw_g (lw_at lw_m2 141 rfl) rfl
theorem q561 : (Jvm.Cond.instanceMethod ({ cls := "RainWheel$Road", name := "isDone", desc := "(II)Z" } : Jvm.MethodName)) ∈ lw_all := lw_g (lw_at lw_m2 226 rfl) rfl
theorem q562 : (Jvm.Cond.selects "RainWheel$Road" ({ cls := "RainWheel$Road", name := "isDone", desc := "(II)Z" } : Jvm.MethodName) ({ cls := "RainWheel$Road", name := "isDone", desc := "(II)Z" } : Jvm.MethodName)) ∈ lw_all := lw_g (lw_at lw_m2 227 rfl) rfl
theorem q563 : (Jvm.Cond.code ({ cls := "RainWheel$Road", name := "isDone", desc := "(II)Z" } : Jvm.MethodName) prog_10_method_5_code (3 : Nat) (Option.some Jvm.ClassFile.FieldType.boolean)) ∈ lw_all := lw_g (lw_at lw_m2 228 rfl) rfl
theorem q564 : (Jvm.Cond.methodLink "RainWheel$Road" (76 : Nat) ({ cls := "java/lang/Integer", name := "bitCount", desc := "(I)I" } : Jvm.MethodName)) ∈ lw_all := lw_g (lw_at lw_m2 229 rfl) rfl
theorem q570 : (Jvm.Cond.methodLink "RainWheel$Road" (82 : Nat) ({ cls := "RainWheel$Road", name := "strongOf", desc := "(I)I" } : Jvm.MethodName)) ∈ lw_all := lw_g (lw_at lw_m2 235 rfl) rfl
theorem q571 : (Jvm.Cond.instanceMethod ({ cls := "RainWheel$Road", name := "strongOf", desc := "(I)I" } : Jvm.MethodName)) ∈ lw_all := lw_g (lw_at lw_m2 236 rfl) rfl
theorem q572 : (Jvm.Cond.selects "RainWheel$Road" ({ cls := "RainWheel$Road", name := "strongOf", desc := "(I)I" } : Jvm.MethodName) ({ cls := "RainWheel$Road", name := "strongOf", desc := "(I)I" } : Jvm.MethodName)) ∈ lw_all := lw_g (lw_at lw_m2 237 rfl) rfl
theorem q573 : (Jvm.Cond.code ({ cls := "RainWheel$Road", name := "strongOf", desc := "(I)I" } : Jvm.MethodName) prog_10_method_4_code (4 : Nat) (Option.some Jvm.ClassFile.FieldType.int)) ∈ lw_all := lw_g (lw_at lw_m2 238 rfl) rfl
theorem q587 : (Jvm.Cond.instanceMethod ({ cls := "RainWheel$Road", name := "isRain", desc := "(I)Z" } : Jvm.MethodName)) ∈ lw_all := lw_g (lw_at lw_m3 12 rfl) rfl
theorem q588 : (Jvm.Cond.selects "RainWheel$Road" ({ cls := "RainWheel$Road", name := "isRain", desc := "(I)Z" } : Jvm.MethodName) ({ cls := "RainWheel$Road", name := "isRain", desc := "(I)Z" } : Jvm.MethodName)) ∈ lw_all := lw_g (lw_at lw_m3 13 rfl) rfl
theorem q589 : (Jvm.Cond.code ({ cls := "RainWheel$Road", name := "isRain", desc := "(I)Z" } : Jvm.MethodName) prog_10_method_2_code (3 : Nat) (Option.some Jvm.ClassFile.FieldType.boolean)) ∈ lw_all := lw_g (lw_at lw_m3 14 rfl) rfl
theorem q634 : (Jvm.Cond.instanceMethod ({ cls := "RainWheel$Road", name := "rainIn", desc := "(II)I" } : Jvm.MethodName)) ∈ lw_all := lw_g (lw_at lw_m3 59 rfl) rfl
theorem q635 : (Jvm.Cond.selects "RainWheel$Road" ({ cls := "RainWheel$Road", name := "rainIn", desc := "(II)I" } : Jvm.MethodName) ({ cls := "RainWheel$Road", name := "rainIn", desc := "(II)I" } : Jvm.MethodName)) ∈ lw_all := lw_g (lw_at lw_m3 60 rfl) rfl
theorem q636 : (Jvm.Cond.code ({ cls := "RainWheel$Road", name := "rainIn", desc := "(II)I" } : Jvm.MethodName) prog_10_method_3_code (5 : Nat) (Option.some Jvm.ClassFile.FieldType.int)) ∈ lw_all := lw_g (lw_at lw_m3 61 rfl) rfl
theorem q637 : (Jvm.Cond.methodLink "RainWheel$Road" (69 : Nat) ({ cls := "RainWheel$Road", name := "isRain", desc := "(I)Z" } : Jvm.MethodName)) ∈ lw_all := lw_g (lw_at lw_m3 62 rfl) rfl
theorem q1239 : (Jvm.Cond.instanceMethod ({ cls := "RainWheel$Road", name := "ahead", desc := "(I)I" } : Jvm.MethodName)) ∈ lw_all := lw_g (lw_at lw_m5 184 rfl) rfl
theorem q1240 : (Jvm.Cond.selects "RainWheel$Road" ({ cls := "RainWheel$Road", name := "ahead", desc := "(I)I" } : Jvm.MethodName) ({ cls := "RainWheel$Road", name := "ahead", desc := "(I)I" } : Jvm.MethodName)) ∈ lw_all := lw_g (lw_at lw_m5 185 rfl) rfl
theorem q1241 : (Jvm.Cond.code ({ cls := "RainWheel$Road", name := "ahead", desc := "(I)I" } : Jvm.MethodName) prog_10_method_6_code (4 : Nat) (Option.some Jvm.ClassFile.FieldType.int)) ∈ lw_all := lw_g (lw_at lw_m5 186 rfl) rfl
theorem q1250 : (Jvm.Cond.instanceMethod ({ cls := "RainWheel$Road", name := "chain", desc := "(I)I" } : Jvm.MethodName)) ∈ lw_all := lw_g (lw_at lw_m5 195 rfl) rfl
theorem q1251 : (Jvm.Cond.selects "RainWheel$Road" ({ cls := "RainWheel$Road", name := "chain", desc := "(I)I" } : Jvm.MethodName) ({ cls := "RainWheel$Road", name := "chain", desc := "(I)I" } : Jvm.MethodName)) ∈ lw_all := lw_g (lw_at lw_m5 196 rfl) rfl
theorem q1252 : (Jvm.Cond.code ({ cls := "RainWheel$Road", name := "chain", desc := "(I)I" } : Jvm.MethodName) prog_10_method_7_code (4 : Nat) (Option.some Jvm.ClassFile.FieldType.int)) ∈ lw_all := lw_g (lw_at lw_m5 197 rfl) rfl
theorem q1253 : (Jvm.Cond.methodLink "RainWheel$Road" (85 : Nat) ({ cls := "RainWheel$Road", name := "chain", desc := "(I)I" } : Jvm.MethodName)) ∈ lw_all := lw_g (lw_at lw_m5 198 rfl) rfl
theorem q1254 : (Jvm.Cond.methodLink "RainWheel$Road" (88 : Nat) ({ cls := "java/lang/Math", name := "max", desc := "(II)I" } : Jvm.MethodName)) ∈ lw_all := lw_g (lw_at lw_m5 199 rfl) rfl
theorem q1321 : (Jvm.Cond.instanceMethod ({ cls := "RainWheel$Road", name := "sinks", desc := "(III)I" } : Jvm.MethodName)) ∈ lw_all := lw_g (lw_at lw_m6 26 rfl) rfl
theorem q1322 : (Jvm.Cond.selects "RainWheel$Road" ({ cls := "RainWheel$Road", name := "sinks", desc := "(III)I" } : Jvm.MethodName) ({ cls := "RainWheel$Road", name := "sinks", desc := "(III)I" } : Jvm.MethodName)) ∈ lw_all := lw_g (lw_at lw_m6 27 rfl) rfl
theorem q1323 : (Jvm.Cond.code ({ cls := "RainWheel$Road", name := "sinks", desc := "(III)I" } : Jvm.MethodName) prog_10_method_8_code (6 : Nat) (Option.some Jvm.ClassFile.FieldType.int)) ∈ lw_all := lw_g (lw_at lw_m6 28 rfl) rfl
theorem q2259 : (Jvm.Cond.castable "RainWheel$Road" "java/lang/Object") ∈ lw_tbl := lw_at lw_m10 4 rfl

abbrev cX11_init : ByteArray := prog_11_method_1_code
def yX11_init : MethodName := ⟨RX11, "<init>", "(LRainWheel$Reader;)V"⟩
def dkwX11_init_4 : List UInt8 := [177]
abbrev dktX11_init_4 : List UInt8 := dkwX11_init_4 ++ []
def dkwX11_init_3 : List UInt8 := [16, 11, 18, 33, 83, 181, 0, 35, 42, 187, 0, 41, 89, 183, 0, 43, 181, 0, 44, 42, 43, 181, 0, 48]
abbrev dktX11_init_3 : List UInt8 := dkwX11_init_3 ++ dktX11_init_4
def dkwX11_init_2 : List UInt8 := [16, 7, 18, 25, 83, 89, 16, 8, 18, 27, 83, 89, 16, 9, 18, 29, 83, 89, 16, 10, 18, 31, 83, 89]
abbrev dktX11_init_2 : List UInt8 := dkwX11_init_2 ++ dktX11_init_3
def dkwX11_init_1 : List UInt8 := [83, 89, 6, 18, 17, 83, 89, 7, 18, 19, 83, 89, 8, 18, 21, 83, 89, 16, 6, 18, 23, 83, 89]
abbrev dktX11_init_1 : List UInt8 := dkwX11_init_1 ++ dktX11_init_2
def dkwX11_init_0 : List UInt8 := [42, 183, 0, 3, 42, 16, 12, 189, 0, 9, 89, 3, 18, 11, 83, 89, 4, 18, 13, 83, 89, 5, 18, 15]
abbrev dktX11_init_0 : List UInt8 := dkwX11_init_0 ++ dktX11_init_1
theorem dksX11_init_0 : cX11_init.data.toList.drop 0 = dktX11_init_0 := by decide +kernel
theorem dksX11_init_1 : cX11_init.data.toList.drop 24 = dktX11_init_1 := dk_seg dksX11_init_0 24 rfl rfl
theorem dksX11_init_2 : cX11_init.data.toList.drop 47 = dktX11_init_2 := dk_seg dksX11_init_1 23 rfl rfl
theorem dksX11_init_3 : cX11_init.data.toList.drop 71 = dktX11_init_3 := dk_seg dksX11_init_2 24 rfl rfl
theorem dksX11_init_4 : cX11_init.data.toList.drop 95 = dktX11_init_4 := dk_seg dksX11_init_3 24 rfl rfl
theorem dX11_init_0 : decode cX11_init 0 = .ok (.aload_n 0, 1) := dk_42 (dk_at dksX11_init_0 0 rfl rfl)
theorem dX11_init_1 : decode cX11_init 1 = .ok (.invokespecial 3, 3) := dk_183 0 3 (dk_at dksX11_init_0 1 rfl rfl)
theorem dX11_init_4 : decode cX11_init 4 = .ok (.aload_n 0, 1) := dk_42 (dk_at dksX11_init_0 4 rfl rfl)
theorem dX11_init_5 : decode cX11_init 5 = .ok (.bipush 12, 2) := dk_16 12 (dk_at dksX11_init_0 5 rfl rfl)
theorem dX11_init_7 : decode cX11_init 7 = .ok (.anewarray 9, 3) := dk_189 0 9 (dk_at dksX11_init_0 7 rfl rfl)
theorem dX11_init_10 : decode cX11_init 10 = .ok (.dup, 1) := dk_89 (dk_at dksX11_init_0 10 rfl rfl)
theorem dX11_init_11 : decode cX11_init 11 = .ok (.iconst 0, 1) := dk_3 (dk_at dksX11_init_0 11 rfl rfl)
theorem dX11_init_12 : decode cX11_init 12 = .ok (.ldc 11, 2) := dk_18 11 (dk_at dksX11_init_0 12 rfl rfl)
theorem dX11_init_14 : decode cX11_init 14 = .ok (.aastore, 1) := dk_83 (dk_at dksX11_init_0 14 rfl rfl)
theorem dX11_init_15 : decode cX11_init 15 = .ok (.dup, 1) := dk_89 (dk_at dksX11_init_0 15 rfl rfl)
theorem dX11_init_16 : decode cX11_init 16 = .ok (.iconst 1, 1) := dk_4 (dk_at dksX11_init_0 16 rfl rfl)
theorem dX11_init_17 : decode cX11_init 17 = .ok (.ldc 13, 2) := dk_18 13 (dk_at dksX11_init_0 17 rfl rfl)
theorem dX11_init_19 : decode cX11_init 19 = .ok (.aastore, 1) := dk_83 (dk_at dksX11_init_0 19 rfl rfl)
theorem dX11_init_20 : decode cX11_init 20 = .ok (.dup, 1) := dk_89 (dk_at dksX11_init_0 20 rfl rfl)
theorem dX11_init_21 : decode cX11_init 21 = .ok (.iconst 2, 1) := dk_5 (dk_at dksX11_init_0 21 rfl rfl)
theorem dX11_init_22 : decode cX11_init 22 = .ok (.ldc 15, 2) := dk_18 15 (dk_at dksX11_init_0 22 rfl rfl)
theorem dX11_init_24 : decode cX11_init 24 = .ok (.aastore, 1) := dk_83 (dk_at dksX11_init_1 0 rfl rfl)
theorem dX11_init_25 : decode cX11_init 25 = .ok (.dup, 1) := dk_89 (dk_at dksX11_init_1 1 rfl rfl)
theorem dX11_init_26 : decode cX11_init 26 = .ok (.iconst 3, 1) := dk_6 (dk_at dksX11_init_1 2 rfl rfl)
theorem dX11_init_27 : decode cX11_init 27 = .ok (.ldc 17, 2) := dk_18 17 (dk_at dksX11_init_1 3 rfl rfl)
theorem dX11_init_29 : decode cX11_init 29 = .ok (.aastore, 1) := dk_83 (dk_at dksX11_init_1 5 rfl rfl)
theorem dX11_init_30 : decode cX11_init 30 = .ok (.dup, 1) := dk_89 (dk_at dksX11_init_1 6 rfl rfl)
theorem dX11_init_31 : decode cX11_init 31 = .ok (.iconst 4, 1) := dk_7 (dk_at dksX11_init_1 7 rfl rfl)
theorem dX11_init_32 : decode cX11_init 32 = .ok (.ldc 19, 2) := dk_18 19 (dk_at dksX11_init_1 8 rfl rfl)
theorem dX11_init_34 : decode cX11_init 34 = .ok (.aastore, 1) := dk_83 (dk_at dksX11_init_1 10 rfl rfl)
theorem dX11_init_35 : decode cX11_init 35 = .ok (.dup, 1) := dk_89 (dk_at dksX11_init_1 11 rfl rfl)
theorem dX11_init_36 : decode cX11_init 36 = .ok (.iconst 5, 1) := dk_8 (dk_at dksX11_init_1 12 rfl rfl)
theorem dX11_init_37 : decode cX11_init 37 = .ok (.ldc 21, 2) := dk_18 21 (dk_at dksX11_init_1 13 rfl rfl)
theorem dX11_init_39 : decode cX11_init 39 = .ok (.aastore, 1) := dk_83 (dk_at dksX11_init_1 15 rfl rfl)
theorem dX11_init_40 : decode cX11_init 40 = .ok (.dup, 1) := dk_89 (dk_at dksX11_init_1 16 rfl rfl)
theorem dX11_init_41 : decode cX11_init 41 = .ok (.bipush 6, 2) := dk_16 6 (dk_at dksX11_init_1 17 rfl rfl)
theorem dX11_init_43 : decode cX11_init 43 = .ok (.ldc 23, 2) := dk_18 23 (dk_at dksX11_init_1 19 rfl rfl)
theorem dX11_init_45 : decode cX11_init 45 = .ok (.aastore, 1) := dk_83 (dk_at dksX11_init_1 21 rfl rfl)
theorem dX11_init_46 : decode cX11_init 46 = .ok (.dup, 1) := dk_89 (dk_at dksX11_init_1 22 rfl rfl)
theorem dX11_init_47 : decode cX11_init 47 = .ok (.bipush 7, 2) := dk_16 7 (dk_at dksX11_init_2 0 rfl rfl)
theorem dX11_init_49 : decode cX11_init 49 = .ok (.ldc 25, 2) := dk_18 25 (dk_at dksX11_init_2 2 rfl rfl)
theorem dX11_init_51 : decode cX11_init 51 = .ok (.aastore, 1) := dk_83 (dk_at dksX11_init_2 4 rfl rfl)
theorem dX11_init_52 : decode cX11_init 52 = .ok (.dup, 1) := dk_89 (dk_at dksX11_init_2 5 rfl rfl)
theorem dX11_init_53 : decode cX11_init 53 = .ok (.bipush 8, 2) := dk_16 8 (dk_at dksX11_init_2 6 rfl rfl)
theorem dX11_init_55 : decode cX11_init 55 = .ok (.ldc 27, 2) := dk_18 27 (dk_at dksX11_init_2 8 rfl rfl)
theorem dX11_init_57 : decode cX11_init 57 = .ok (.aastore, 1) := dk_83 (dk_at dksX11_init_2 10 rfl rfl)
theorem dX11_init_58 : decode cX11_init 58 = .ok (.dup, 1) := dk_89 (dk_at dksX11_init_2 11 rfl rfl)
theorem dX11_init_59 : decode cX11_init 59 = .ok (.bipush 9, 2) := dk_16 9 (dk_at dksX11_init_2 12 rfl rfl)
theorem dX11_init_61 : decode cX11_init 61 = .ok (.ldc 29, 2) := dk_18 29 (dk_at dksX11_init_2 14 rfl rfl)
theorem dX11_init_63 : decode cX11_init 63 = .ok (.aastore, 1) := dk_83 (dk_at dksX11_init_2 16 rfl rfl)
theorem dX11_init_64 : decode cX11_init 64 = .ok (.dup, 1) := dk_89 (dk_at dksX11_init_2 17 rfl rfl)
theorem dX11_init_65 : decode cX11_init 65 = .ok (.bipush 10, 2) := dk_16 10 (dk_at dksX11_init_2 18 rfl rfl)
theorem dX11_init_67 : decode cX11_init 67 = .ok (.ldc 31, 2) := dk_18 31 (dk_at dksX11_init_2 20 rfl rfl)
theorem dX11_init_69 : decode cX11_init 69 = .ok (.aastore, 1) := dk_83 (dk_at dksX11_init_2 22 rfl rfl)
theorem dX11_init_70 : decode cX11_init 70 = .ok (.dup, 1) := dk_89 (dk_at dksX11_init_2 23 rfl rfl)
theorem dX11_init_71 : decode cX11_init 71 = .ok (.bipush 11, 2) := dk_16 11 (dk_at dksX11_init_3 0 rfl rfl)
theorem dX11_init_73 : decode cX11_init 73 = .ok (.ldc 33, 2) := dk_18 33 (dk_at dksX11_init_3 2 rfl rfl)
theorem dX11_init_75 : decode cX11_init 75 = .ok (.aastore, 1) := dk_83 (dk_at dksX11_init_3 4 rfl rfl)
theorem dX11_init_76 : decode cX11_init 76 = .ok (.putfield 35, 3) := dk_181 0 35 (dk_at dksX11_init_3 5 rfl rfl)
theorem dX11_init_79 : decode cX11_init 79 = .ok (.aload_n 0, 1) := dk_42 (dk_at dksX11_init_3 8 rfl rfl)
theorem dX11_init_80 : decode cX11_init 80 = .ok (.new 41, 3) := dk_187 0 41 (dk_at dksX11_init_3 9 rfl rfl)
theorem dX11_init_83 : decode cX11_init 83 = .ok (.dup, 1) := dk_89 (dk_at dksX11_init_3 12 rfl rfl)
theorem dX11_init_84 : decode cX11_init 84 = .ok (.invokespecial 43, 3) := dk_183 0 43 (dk_at dksX11_init_3 13 rfl rfl)
theorem dX11_init_87 : decode cX11_init 87 = .ok (.putfield 44, 3) := dk_181 0 44 (dk_at dksX11_init_3 16 rfl rfl)
theorem dX11_init_90 : decode cX11_init 90 = .ok (.aload_n 0, 1) := dk_42 (dk_at dksX11_init_3 19 rfl rfl)
theorem dX11_init_91 : decode cX11_init 91 = .ok (.aload_n 1, 1) := dk_43 (dk_at dksX11_init_3 20 rfl rfl)
theorem dX11_init_92 : decode cX11_init 92 = .ok (.putfield 48, 3) := dk_181 0 48 (dk_at dksX11_init_3 21 rfl rfl)
theorem dX11_init_95 : decode cX11_init 95 = .ok (.return_, 1) := dk_177 (dk_at dksX11_init_4 0 rfl rfl)
abbrev cX11_reads : ByteArray := prog_11_method_2_code
def yX11_reads : MethodName := ⟨RX11, "reads", "()LRainWheel$Road;"⟩
def dkwX11_reads_0 : List UInt8 := [42, 180, 0, 48, 182, 0, 52, 2, 159, 0, 10, 42, 182, 0, 58, 167, 255, 241, 42, 180, 0, 44, 176]
abbrev dktX11_reads_0 : List UInt8 := dkwX11_reads_0 ++ []
theorem dksX11_reads_0 : cX11_reads.data.toList.drop 0 = dktX11_reads_0 := by decide +kernel
theorem dX11_reads_0 : decode cX11_reads 0 = .ok (.aload_n 0, 1) := dk_42 (dk_at dksX11_reads_0 0 rfl rfl)
theorem dX11_reads_1 : decode cX11_reads 1 = .ok (.getfield 48, 3) := dk_180 0 48 (dk_at dksX11_reads_0 1 rfl rfl)
theorem dX11_reads_4 : decode cX11_reads 4 = .ok (.invokevirtual 52, 3) := dk_182 0 52 (dk_at dksX11_reads_0 4 rfl rfl)
theorem dX11_reads_7 : decode cX11_reads 7 = .ok (.iconst (-1), 1) := dk_2 (dk_at dksX11_reads_0 7 rfl rfl)
theorem dX11_reads_8 : decode cX11_reads 8 = .ok (.if_icmp .eq 10, 3) := dk_159 0 10 (dk_at dksX11_reads_0 8 rfl rfl)
theorem dX11_reads_11 : decode cX11_reads 11 = .ok (.aload_n 0, 1) := dk_42 (dk_at dksX11_reads_0 11 rfl rfl)
theorem dX11_reads_12 : decode cX11_reads 12 = .ok (.invokevirtual 58, 3) := dk_182 0 58 (dk_at dksX11_reads_0 12 rfl rfl)
theorem dX11_reads_15 : decode cX11_reads 15 = .ok (.goto (-15), 3) := dk_167 255 241 (dk_at dksX11_reads_0 15 rfl rfl)
theorem dX11_reads_18 : decode cX11_reads 18 = .ok (.aload_n 0, 1) := dk_42 (dk_at dksX11_reads_0 18 rfl rfl)
theorem dX11_reads_19 : decode cX11_reads 19 = .ok (.getfield 44, 3) := dk_180 0 44 (dk_at dksX11_reads_0 19 rfl rfl)
theorem dX11_reads_22 : decode cX11_reads 22 = .ok (.areturn, 1) := dk_176 (dk_at dksX11_reads_0 22 rfl rfl)
abbrev cX11_clause : ByteArray := prog_11_method_4_code
def yX11_clause : MethodName := ⟨RX11, "clause", "()V"⟩
def dkwX11_clause_19 : List UInt8 := [42, 180, 0, 48, 4, 16, 9, 182, 0, 106, 181, 0, 136, 42, 180, 0, 48, 16, 59, 182, 0, 139, 177]
abbrev dktX11_clause_19 : List UInt8 := dkwX11_clause_19 ++ []
def dkwX11_clause_18 : List UInt8 := [167, 0, 37, 42, 180, 0, 44, 42, 180, 0, 48, 3, 16, 99, 182, 0, 106, 181, 0, 134, 42, 180, 0, 44]
abbrev dktX11_clause_18 : List UInt8 := dkwX11_clause_18 ++ dktX11_clause_19
def dkwX11_clause_17 : List UInt8 := [181, 0, 130, 167, 0, 57, 42, 180, 0, 44, 42, 180, 0, 48, 3, 16, 16, 182, 0, 106, 181, 0, 132]
abbrev dktX11_clause_17 : List UInt8 := dkwX11_clause_17 ++ dktX11_clause_18
def dkwX11_clause_16 : List UInt8 := [182, 0, 106, 181, 0, 128, 167, 0, 77, 42, 180, 0, 44, 42, 180, 0, 48, 3, 16, 16, 182, 0, 106]
abbrev dktX11_clause_16 : List UInt8 := dkwX11_clause_16 ++ dktX11_clause_17
def dkwX11_clause_15 : List UInt8 := [180, 0, 48, 3, 16, 20, 182, 0, 106, 79, 167, 0, 97, 42, 180, 0, 44, 42, 180, 0, 48, 4, 16, 99]
abbrev dktX11_clause_15 : List UInt8 := dkwX11_clause_15 ++ dktX11_clause_16
def dkwX11_clause_14 : List UInt8 := [167, 0, 130, 42, 180, 0, 48, 3, 16, 59, 182, 0, 106, 62, 42, 180, 0, 44, 180, 0, 125, 29, 42]
abbrev dktX11_clause_14 : List UInt8 := dkwX11_clause_14 ++ dktX11_clause_15
def dkwX11_clause_13 : List UInt8 := [180, 0, 44, 180, 0, 123, 29, 92, 46, 4, 42, 180, 0, 48, 3, 29, 4, 100, 182, 0, 106, 120, 128, 79]
abbrev dktX11_clause_13 : List UInt8 := dkwX11_clause_13 ++ dktX11_clause_14
def dkwX11_clause_12 : List UInt8 := [167, 0, 176, 42, 180, 0, 48, 3, 42, 180, 0, 44, 180, 0, 65, 4, 100, 182, 0, 106, 62, 42]
abbrev dktX11_clause_12 : List UInt8 := dkwX11_clause_12 ++ dktX11_clause_13
def dkwX11_clause_11 : List UInt8 := [180, 0, 74, 4, 96, 181, 0, 74, 167, 0, 190, 42, 42, 180, 0, 44, 180, 0, 77, 182, 0, 121]
abbrev dktX11_clause_11 : List UInt8 := dkwX11_clause_11 ++ dktX11_clause_12
def dkwX11_clause_10 : List UInt8 := [180, 0, 44, 180, 0, 74, 42, 180, 0, 48, 3, 16, 15, 182, 0, 106, 79, 42, 180, 0, 44, 89]
abbrev dktX11_clause_10 : List UInt8 := dkwX11_clause_10 ++ dktX11_clause_11
def dkwX11_clause_9 : List UInt8 := [42, 180, 0, 44, 89, 180, 0, 71, 4, 96, 181, 0, 71, 167, 0, 231, 42, 180, 0, 44, 180, 0, 118, 42]
abbrev dktX11_clause_9 : List UInt8 := dkwX11_clause_9 ++ dktX11_clause_10
def dkwX11_clause_8 : List UInt8 := [180, 0, 44, 180, 0, 115, 42, 180, 0, 44, 180, 0, 71, 42, 180, 0, 48, 4, 16, 9, 182, 0, 106, 79]
abbrev dktX11_clause_8 : List UInt8 := dkwX11_clause_8 ++ dktX11_clause_9
def dkwX11_clause_7 : List UInt8 := [180, 0, 65, 182, 0, 110, 167, 1, 30, 42, 42, 180, 0, 44, 180, 0, 68, 182, 0, 113, 167, 1, 16, 42]
abbrev dktX11_clause_7 : List UInt8 := dkwX11_clause_7 ++ dktX11_clause_8
def dkwX11_clause_6 : List UInt8 := [79, 42, 180, 0, 44, 89, 180, 0, 61, 4, 96, 181, 0, 61, 167, 1, 44, 42, 42, 180, 0, 44]
abbrev dktX11_clause_6 : List UInt8 := dkwX11_clause_6 ++ dktX11_clause_7
def dkwX11_clause_5 : List UInt8 := [42, 180, 0, 44, 180, 0, 102, 42, 180, 0, 44, 180, 0, 61, 42, 180, 0, 48, 4, 16, 9, 182, 0, 106]
abbrev dktX11_clause_5 : List UInt8 := dkwX11_clause_5 ++ dktX11_clause_6
def dkwX11_clause_4 : List UInt8 := [170, 0, 0, 0, 0, 0, 1, 108, 0, 0, 0, 0, 0, 0, 0, 10, 0, 0, 0, 60, 0, 0, 0, 101, 0, 0, 0, 115, 0, 0, 0, 129, 0, 0, 0, 170, 0, 0, 0, 211, 0, 0, 0, 225, 0, 0, 1, 15, 0, 0, 1, 48, 0, 0, 1, 68, 0, 0, 1, 88]
abbrev dktX11_clause_4 : List UInt8 := dkwX11_clause_4 ++ dktX11_clause_5
def dkwX11_clause_3 : List UInt8 := [89, 180, 0, 92, 4, 96, 181, 0, 92, 28]
abbrev dktX11_clause_3 : List UInt8 := dkwX11_clause_3 ++ dktX11_clause_4
def dkwX11_clause_2 : List UInt8 := [182, 0, 95, 153, 0, 13, 187, 0, 87, 89, 6, 27, 183, 0, 89, 191, 42, 180, 0, 48, 182, 0, 99, 42]
abbrev dktX11_clause_2 : List UInt8 := dkwX11_clause_2 ++ dktX11_clause_3
def dkwX11_clause_1 : List UInt8 := [160, 0, 13, 187, 0, 87, 89, 4, 27, 183, 0, 89, 191, 42, 180, 0, 92, 16, 60, 159, 0, 11, 42, 28]
abbrev dktX11_clause_1 : List UInt8 := dkwX11_clause_1 ++ dktX11_clause_2
def dkwX11_clause_0 : List UInt8 := [42, 180, 0, 48, 182, 0, 80, 60, 42, 180, 0, 48, 42, 180, 0, 35, 182, 0, 83, 61, 28, 2]
abbrev dktX11_clause_0 : List UInt8 := dkwX11_clause_0 ++ dktX11_clause_1
theorem dksX11_clause_0 : cX11_clause.data.toList.drop 0 = dktX11_clause_0 := by decide +kernel
theorem dksX11_clause_1 : cX11_clause.data.toList.drop 22 = dktX11_clause_1 := dk_seg dksX11_clause_0 22 rfl rfl
theorem dksX11_clause_2 : cX11_clause.data.toList.drop 46 = dktX11_clause_2 := dk_seg dksX11_clause_1 24 rfl rfl
theorem dksX11_clause_3 : cX11_clause.data.toList.drop 70 = dktX11_clause_3 := dk_seg dksX11_clause_2 24 rfl rfl
theorem dksX11_clause_4 : cX11_clause.data.toList.drop 80 = dktX11_clause_4 := dk_seg dksX11_clause_3 10 rfl rfl
theorem dksX11_clause_5 : cX11_clause.data.toList.drop 140 = dktX11_clause_5 := dk_seg dksX11_clause_4 60 rfl rfl
theorem dksX11_clause_6 : cX11_clause.data.toList.drop 164 = dktX11_clause_6 := dk_seg dksX11_clause_5 24 rfl rfl
theorem dksX11_clause_7 : cX11_clause.data.toList.drop 186 = dktX11_clause_7 := dk_seg dksX11_clause_6 22 rfl rfl
theorem dksX11_clause_8 : cX11_clause.data.toList.drop 210 = dktX11_clause_8 := dk_seg dksX11_clause_7 24 rfl rfl
theorem dksX11_clause_9 : cX11_clause.data.toList.drop 234 = dktX11_clause_9 := dk_seg dksX11_clause_8 24 rfl rfl
theorem dksX11_clause_10 : cX11_clause.data.toList.drop 258 = dktX11_clause_10 := dk_seg dksX11_clause_9 24 rfl rfl
theorem dksX11_clause_11 : cX11_clause.data.toList.drop 280 = dktX11_clause_11 := dk_seg dksX11_clause_10 22 rfl rfl
theorem dksX11_clause_12 : cX11_clause.data.toList.drop 302 = dktX11_clause_12 := dk_seg dksX11_clause_11 22 rfl rfl
theorem dksX11_clause_13 : cX11_clause.data.toList.drop 324 = dktX11_clause_13 := dk_seg dksX11_clause_12 22 rfl rfl
theorem dksX11_clause_14 : cX11_clause.data.toList.drop 348 = dktX11_clause_14 := dk_seg dksX11_clause_13 24 rfl rfl
theorem dksX11_clause_15 : cX11_clause.data.toList.drop 371 = dktX11_clause_15 := dk_seg dksX11_clause_14 23 rfl rfl
theorem dksX11_clause_16 : cX11_clause.data.toList.drop 395 = dktX11_clause_16 := dk_seg dksX11_clause_15 24 rfl rfl
theorem dksX11_clause_17 : cX11_clause.data.toList.drop 418 = dktX11_clause_17 := dk_seg dksX11_clause_16 23 rfl rfl
theorem dksX11_clause_18 : cX11_clause.data.toList.drop 441 = dktX11_clause_18 := dk_seg dksX11_clause_17 23 rfl rfl
theorem dksX11_clause_19 : cX11_clause.data.toList.drop 465 = dktX11_clause_19 := dk_seg dksX11_clause_18 24 rfl rfl
theorem dX11_clause_0 : decode cX11_clause 0 = .ok (.aload_n 0, 1) := dk_42 (dk_at dksX11_clause_0 0 rfl rfl)
theorem dX11_clause_1 : decode cX11_clause 1 = .ok (.getfield 48, 3) := dk_180 0 48 (dk_at dksX11_clause_0 1 rfl rfl)
theorem dX11_clause_4 : decode cX11_clause 4 = .ok (.invokevirtual 80, 3) := dk_182 0 80 (dk_at dksX11_clause_0 4 rfl rfl)
theorem dX11_clause_7 : decode cX11_clause 7 = .ok (.istore_n 1, 1) := dk_60 (dk_at dksX11_clause_0 7 rfl rfl)
theorem dX11_clause_8 : decode cX11_clause 8 = .ok (.aload_n 0, 1) := dk_42 (dk_at dksX11_clause_0 8 rfl rfl)
theorem dX11_clause_9 : decode cX11_clause 9 = .ok (.getfield 48, 3) := dk_180 0 48 (dk_at dksX11_clause_0 9 rfl rfl)
theorem dX11_clause_12 : decode cX11_clause 12 = .ok (.aload_n 0, 1) := dk_42 (dk_at dksX11_clause_0 12 rfl rfl)
theorem dX11_clause_13 : decode cX11_clause 13 = .ok (.getfield 35, 3) := dk_180 0 35 (dk_at dksX11_clause_0 13 rfl rfl)
theorem dX11_clause_16 : decode cX11_clause 16 = .ok (.invokevirtual 83, 3) := dk_182 0 83 (dk_at dksX11_clause_0 16 rfl rfl)
theorem dX11_clause_19 : decode cX11_clause 19 = .ok (.istore_n 2, 1) := dk_61 (dk_at dksX11_clause_0 19 rfl rfl)
theorem dX11_clause_20 : decode cX11_clause 20 = .ok (.iload_n 2, 1) := dk_28 (dk_at dksX11_clause_0 20 rfl rfl)
theorem dX11_clause_21 : decode cX11_clause 21 = .ok (.iconst (-1), 1) := dk_2 (dk_at dksX11_clause_0 21 rfl rfl)
theorem dX11_clause_22 : decode cX11_clause 22 = .ok (.if_icmp .ne 13, 3) := dk_160 0 13 (dk_at dksX11_clause_1 0 rfl rfl)
theorem dX11_clause_25 : decode cX11_clause 25 = .ok (.new 87, 3) := dk_187 0 87 (dk_at dksX11_clause_1 3 rfl rfl)
theorem dX11_clause_28 : decode cX11_clause 28 = .ok (.dup, 1) := dk_89 (dk_at dksX11_clause_1 6 rfl rfl)
theorem dX11_clause_29 : decode cX11_clause 29 = .ok (.iconst 1, 1) := dk_4 (dk_at dksX11_clause_1 7 rfl rfl)
theorem dX11_clause_30 : decode cX11_clause 30 = .ok (.iload_n 1, 1) := dk_27 (dk_at dksX11_clause_1 8 rfl rfl)
theorem dX11_clause_31 : decode cX11_clause 31 = .ok (.invokespecial 89, 3) := dk_183 0 89 (dk_at dksX11_clause_1 9 rfl rfl)
theorem dX11_clause_34 : decode cX11_clause 34 = .ok (.athrow, 1) := dk_191 (dk_at dksX11_clause_1 12 rfl rfl)
theorem dX11_clause_35 : decode cX11_clause 35 = .ok (.aload_n 0, 1) := dk_42 (dk_at dksX11_clause_1 13 rfl rfl)
theorem dX11_clause_36 : decode cX11_clause 36 = .ok (.getfield 92, 3) := dk_180 0 92 (dk_at dksX11_clause_1 14 rfl rfl)
theorem dX11_clause_39 : decode cX11_clause 39 = .ok (.bipush 60, 2) := dk_16 60 (dk_at dksX11_clause_1 17 rfl rfl)
theorem dX11_clause_41 : decode cX11_clause 41 = .ok (.if_icmp .eq 11, 3) := dk_159 0 11 (dk_at dksX11_clause_1 19 rfl rfl)
theorem dX11_clause_44 : decode cX11_clause 44 = .ok (.aload_n 0, 1) := dk_42 (dk_at dksX11_clause_1 22 rfl rfl)
theorem dX11_clause_45 : decode cX11_clause 45 = .ok (.iload_n 2, 1) := dk_28 (dk_at dksX11_clause_1 23 rfl rfl)
theorem dX11_clause_46 : decode cX11_clause 46 = .ok (.invokevirtual 95, 3) := dk_182 0 95 (dk_at dksX11_clause_2 0 rfl rfl)
theorem dX11_clause_49 : decode cX11_clause 49 = .ok (.ifCond .eq 13, 3) := dk_153 0 13 (dk_at dksX11_clause_2 3 rfl rfl)
theorem dX11_clause_52 : decode cX11_clause 52 = .ok (.new 87, 3) := dk_187 0 87 (dk_at dksX11_clause_2 6 rfl rfl)
theorem dX11_clause_55 : decode cX11_clause 55 = .ok (.dup, 1) := dk_89 (dk_at dksX11_clause_2 9 rfl rfl)
theorem dX11_clause_56 : decode cX11_clause 56 = .ok (.iconst 3, 1) := dk_6 (dk_at dksX11_clause_2 10 rfl rfl)
theorem dX11_clause_57 : decode cX11_clause 57 = .ok (.iload_n 1, 1) := dk_27 (dk_at dksX11_clause_2 11 rfl rfl)
theorem dX11_clause_58 : decode cX11_clause 58 = .ok (.invokespecial 89, 3) := dk_183 0 89 (dk_at dksX11_clause_2 12 rfl rfl)
theorem dX11_clause_61 : decode cX11_clause 61 = .ok (.athrow, 1) := dk_191 (dk_at dksX11_clause_2 15 rfl rfl)
theorem dX11_clause_62 : decode cX11_clause 62 = .ok (.aload_n 0, 1) := dk_42 (dk_at dksX11_clause_2 16 rfl rfl)
theorem dX11_clause_63 : decode cX11_clause 63 = .ok (.getfield 48, 3) := dk_180 0 48 (dk_at dksX11_clause_2 17 rfl rfl)
theorem dX11_clause_66 : decode cX11_clause 66 = .ok (.invokevirtual 99, 3) := dk_182 0 99 (dk_at dksX11_clause_2 20 rfl rfl)
theorem dX11_clause_69 : decode cX11_clause 69 = .ok (.aload_n 0, 1) := dk_42 (dk_at dksX11_clause_2 23 rfl rfl)
theorem dX11_clause_70 : decode cX11_clause 70 = .ok (.dup, 1) := dk_89 (dk_at dksX11_clause_3 0 rfl rfl)
theorem dX11_clause_71 : decode cX11_clause 71 = .ok (.getfield 92, 3) := dk_180 0 92 (dk_at dksX11_clause_3 1 rfl rfl)
theorem dX11_clause_74 : decode cX11_clause 74 = .ok (.iconst 1, 1) := dk_4 (dk_at dksX11_clause_3 4 rfl rfl)
theorem dX11_clause_75 : decode cX11_clause 75 = .ok (.iadd, 1) := dk_96 (dk_at dksX11_clause_3 5 rfl rfl)
theorem dX11_clause_76 : decode cX11_clause 76 = .ok (.putfield 92, 3) := dk_181 0 92 (dk_at dksX11_clause_3 6 rfl rfl)
theorem dX11_clause_79 : decode cX11_clause 79 = .ok (.iload_n 2, 1) := dk_28 (dk_at dksX11_clause_3 9 rfl rfl)
theorem dX11_clause_80 : decode cX11_clause 80 = .ok (.tableswitch 364 0 10 #[60, 101, 115, 129, 170, 211, 225, 271, 304, 324, 344], 60) := by decide +kernel
theorem dX11_clause_140 : decode cX11_clause 140 = .ok (.aload_n 0, 1) := dk_42 (dk_at dksX11_clause_5 0 rfl rfl)
theorem dX11_clause_141 : decode cX11_clause 141 = .ok (.getfield 44, 3) := dk_180 0 44 (dk_at dksX11_clause_5 1 rfl rfl)
theorem dX11_clause_144 : decode cX11_clause 144 = .ok (.getfield 102, 3) := dk_180 0 102 (dk_at dksX11_clause_5 4 rfl rfl)
theorem dX11_clause_147 : decode cX11_clause 147 = .ok (.aload_n 0, 1) := dk_42 (dk_at dksX11_clause_5 7 rfl rfl)
theorem dX11_clause_148 : decode cX11_clause 148 = .ok (.getfield 44, 3) := dk_180 0 44 (dk_at dksX11_clause_5 8 rfl rfl)
theorem dX11_clause_151 : decode cX11_clause 151 = .ok (.getfield 61, 3) := dk_180 0 61 (dk_at dksX11_clause_5 11 rfl rfl)
theorem dX11_clause_154 : decode cX11_clause 154 = .ok (.aload_n 0, 1) := dk_42 (dk_at dksX11_clause_5 14 rfl rfl)
theorem dX11_clause_155 : decode cX11_clause 155 = .ok (.getfield 48, 3) := dk_180 0 48 (dk_at dksX11_clause_5 15 rfl rfl)
theorem dX11_clause_158 : decode cX11_clause 158 = .ok (.iconst 1, 1) := dk_4 (dk_at dksX11_clause_5 18 rfl rfl)
theorem dX11_clause_159 : decode cX11_clause 159 = .ok (.bipush 9, 2) := dk_16 9 (dk_at dksX11_clause_5 19 rfl rfl)
theorem dX11_clause_161 : decode cX11_clause 161 = .ok (.invokevirtual 106, 3) := dk_182 0 106 (dk_at dksX11_clause_5 21 rfl rfl)
theorem dX11_clause_164 : decode cX11_clause 164 = .ok (.iastore, 1) := dk_79 (dk_at dksX11_clause_6 0 rfl rfl)
theorem dX11_clause_165 : decode cX11_clause 165 = .ok (.aload_n 0, 1) := dk_42 (dk_at dksX11_clause_6 1 rfl rfl)
theorem dX11_clause_166 : decode cX11_clause 166 = .ok (.getfield 44, 3) := dk_180 0 44 (dk_at dksX11_clause_6 2 rfl rfl)
theorem dX11_clause_169 : decode cX11_clause 169 = .ok (.dup, 1) := dk_89 (dk_at dksX11_clause_6 5 rfl rfl)
theorem dX11_clause_170 : decode cX11_clause 170 = .ok (.getfield 61, 3) := dk_180 0 61 (dk_at dksX11_clause_6 6 rfl rfl)
theorem dX11_clause_173 : decode cX11_clause 173 = .ok (.iconst 1, 1) := dk_4 (dk_at dksX11_clause_6 9 rfl rfl)
theorem dX11_clause_174 : decode cX11_clause 174 = .ok (.iadd, 1) := dk_96 (dk_at dksX11_clause_6 10 rfl rfl)
theorem dX11_clause_175 : decode cX11_clause 175 = .ok (.putfield 61, 3) := dk_181 0 61 (dk_at dksX11_clause_6 11 rfl rfl)
theorem dX11_clause_178 : decode cX11_clause 178 = .ok (.goto 300, 3) := dk_167 1 44 (dk_at dksX11_clause_6 14 rfl rfl)
theorem dX11_clause_181 : decode cX11_clause 181 = .ok (.aload_n 0, 1) := dk_42 (dk_at dksX11_clause_6 17 rfl rfl)
theorem dX11_clause_182 : decode cX11_clause 182 = .ok (.aload_n 0, 1) := dk_42 (dk_at dksX11_clause_6 18 rfl rfl)
theorem dX11_clause_183 : decode cX11_clause 183 = .ok (.getfield 44, 3) := dk_180 0 44 (dk_at dksX11_clause_6 19 rfl rfl)
theorem dX11_clause_186 : decode cX11_clause 186 = .ok (.getfield 65, 3) := dk_180 0 65 (dk_at dksX11_clause_7 0 rfl rfl)
theorem dX11_clause_189 : decode cX11_clause 189 = .ok (.invokevirtual 110, 3) := dk_182 0 110 (dk_at dksX11_clause_7 3 rfl rfl)
theorem dX11_clause_192 : decode cX11_clause 192 = .ok (.goto 286, 3) := dk_167 1 30 (dk_at dksX11_clause_7 6 rfl rfl)
theorem dX11_clause_195 : decode cX11_clause 195 = .ok (.aload_n 0, 1) := dk_42 (dk_at dksX11_clause_7 9 rfl rfl)
theorem dX11_clause_196 : decode cX11_clause 196 = .ok (.aload_n 0, 1) := dk_42 (dk_at dksX11_clause_7 10 rfl rfl)
theorem dX11_clause_197 : decode cX11_clause 197 = .ok (.getfield 44, 3) := dk_180 0 44 (dk_at dksX11_clause_7 11 rfl rfl)
theorem dX11_clause_200 : decode cX11_clause 200 = .ok (.getfield 68, 3) := dk_180 0 68 (dk_at dksX11_clause_7 14 rfl rfl)
theorem dX11_clause_203 : decode cX11_clause 203 = .ok (.invokevirtual 113, 3) := dk_182 0 113 (dk_at dksX11_clause_7 17 rfl rfl)
theorem dX11_clause_206 : decode cX11_clause 206 = .ok (.goto 272, 3) := dk_167 1 16 (dk_at dksX11_clause_7 20 rfl rfl)
theorem dX11_clause_209 : decode cX11_clause 209 = .ok (.aload_n 0, 1) := dk_42 (dk_at dksX11_clause_7 23 rfl rfl)
theorem dX11_clause_210 : decode cX11_clause 210 = .ok (.getfield 44, 3) := dk_180 0 44 (dk_at dksX11_clause_8 0 rfl rfl)
theorem dX11_clause_213 : decode cX11_clause 213 = .ok (.getfield 115, 3) := dk_180 0 115 (dk_at dksX11_clause_8 3 rfl rfl)
theorem dX11_clause_216 : decode cX11_clause 216 = .ok (.aload_n 0, 1) := dk_42 (dk_at dksX11_clause_8 6 rfl rfl)
theorem dX11_clause_217 : decode cX11_clause 217 = .ok (.getfield 44, 3) := dk_180 0 44 (dk_at dksX11_clause_8 7 rfl rfl)
theorem dX11_clause_220 : decode cX11_clause 220 = .ok (.getfield 71, 3) := dk_180 0 71 (dk_at dksX11_clause_8 10 rfl rfl)
theorem dX11_clause_223 : decode cX11_clause 223 = .ok (.aload_n 0, 1) := dk_42 (dk_at dksX11_clause_8 13 rfl rfl)
theorem dX11_clause_224 : decode cX11_clause 224 = .ok (.getfield 48, 3) := dk_180 0 48 (dk_at dksX11_clause_8 14 rfl rfl)
theorem dX11_clause_227 : decode cX11_clause 227 = .ok (.iconst 1, 1) := dk_4 (dk_at dksX11_clause_8 17 rfl rfl)
theorem dX11_clause_228 : decode cX11_clause 228 = .ok (.bipush 9, 2) := dk_16 9 (dk_at dksX11_clause_8 18 rfl rfl)
theorem dX11_clause_230 : decode cX11_clause 230 = .ok (.invokevirtual 106, 3) := dk_182 0 106 (dk_at dksX11_clause_8 20 rfl rfl)
theorem dX11_clause_233 : decode cX11_clause 233 = .ok (.iastore, 1) := dk_79 (dk_at dksX11_clause_8 23 rfl rfl)
theorem dX11_clause_234 : decode cX11_clause 234 = .ok (.aload_n 0, 1) := dk_42 (dk_at dksX11_clause_9 0 rfl rfl)
theorem dX11_clause_235 : decode cX11_clause 235 = .ok (.getfield 44, 3) := dk_180 0 44 (dk_at dksX11_clause_9 1 rfl rfl)
theorem dX11_clause_238 : decode cX11_clause 238 = .ok (.dup, 1) := dk_89 (dk_at dksX11_clause_9 4 rfl rfl)
theorem dX11_clause_239 : decode cX11_clause 239 = .ok (.getfield 71, 3) := dk_180 0 71 (dk_at dksX11_clause_9 5 rfl rfl)
theorem dX11_clause_242 : decode cX11_clause 242 = .ok (.iconst 1, 1) := dk_4 (dk_at dksX11_clause_9 8 rfl rfl)
theorem dX11_clause_243 : decode cX11_clause 243 = .ok (.iadd, 1) := dk_96 (dk_at dksX11_clause_9 9 rfl rfl)
theorem dX11_clause_244 : decode cX11_clause 244 = .ok (.putfield 71, 3) := dk_181 0 71 (dk_at dksX11_clause_9 10 rfl rfl)
theorem dX11_clause_247 : decode cX11_clause 247 = .ok (.goto 231, 3) := dk_167 0 231 (dk_at dksX11_clause_9 13 rfl rfl)
theorem dX11_clause_250 : decode cX11_clause 250 = .ok (.aload_n 0, 1) := dk_42 (dk_at dksX11_clause_9 16 rfl rfl)
theorem dX11_clause_251 : decode cX11_clause 251 = .ok (.getfield 44, 3) := dk_180 0 44 (dk_at dksX11_clause_9 17 rfl rfl)
theorem dX11_clause_254 : decode cX11_clause 254 = .ok (.getfield 118, 3) := dk_180 0 118 (dk_at dksX11_clause_9 20 rfl rfl)
theorem dX11_clause_257 : decode cX11_clause 257 = .ok (.aload_n 0, 1) := dk_42 (dk_at dksX11_clause_9 23 rfl rfl)
theorem dX11_clause_258 : decode cX11_clause 258 = .ok (.getfield 44, 3) := dk_180 0 44 (dk_at dksX11_clause_10 0 rfl rfl)
theorem dX11_clause_261 : decode cX11_clause 261 = .ok (.getfield 74, 3) := dk_180 0 74 (dk_at dksX11_clause_10 3 rfl rfl)
theorem dX11_clause_264 : decode cX11_clause 264 = .ok (.aload_n 0, 1) := dk_42 (dk_at dksX11_clause_10 6 rfl rfl)
theorem dX11_clause_265 : decode cX11_clause 265 = .ok (.getfield 48, 3) := dk_180 0 48 (dk_at dksX11_clause_10 7 rfl rfl)
theorem dX11_clause_268 : decode cX11_clause 268 = .ok (.iconst 0, 1) := dk_3 (dk_at dksX11_clause_10 10 rfl rfl)
theorem dX11_clause_269 : decode cX11_clause 269 = .ok (.bipush 15, 2) := dk_16 15 (dk_at dksX11_clause_10 11 rfl rfl)
theorem dX11_clause_271 : decode cX11_clause 271 = .ok (.invokevirtual 106, 3) := dk_182 0 106 (dk_at dksX11_clause_10 13 rfl rfl)
theorem dX11_clause_274 : decode cX11_clause 274 = .ok (.iastore, 1) := dk_79 (dk_at dksX11_clause_10 16 rfl rfl)
theorem dX11_clause_275 : decode cX11_clause 275 = .ok (.aload_n 0, 1) := dk_42 (dk_at dksX11_clause_10 17 rfl rfl)
theorem dX11_clause_276 : decode cX11_clause 276 = .ok (.getfield 44, 3) := dk_180 0 44 (dk_at dksX11_clause_10 18 rfl rfl)
theorem dX11_clause_279 : decode cX11_clause 279 = .ok (.dup, 1) := dk_89 (dk_at dksX11_clause_10 21 rfl rfl)
theorem dX11_clause_280 : decode cX11_clause 280 = .ok (.getfield 74, 3) := dk_180 0 74 (dk_at dksX11_clause_11 0 rfl rfl)
theorem dX11_clause_283 : decode cX11_clause 283 = .ok (.iconst 1, 1) := dk_4 (dk_at dksX11_clause_11 3 rfl rfl)
theorem dX11_clause_284 : decode cX11_clause 284 = .ok (.iadd, 1) := dk_96 (dk_at dksX11_clause_11 4 rfl rfl)
theorem dX11_clause_285 : decode cX11_clause 285 = .ok (.putfield 74, 3) := dk_181 0 74 (dk_at dksX11_clause_11 5 rfl rfl)
theorem dX11_clause_288 : decode cX11_clause 288 = .ok (.goto 190, 3) := dk_167 0 190 (dk_at dksX11_clause_11 8 rfl rfl)
theorem dX11_clause_291 : decode cX11_clause 291 = .ok (.aload_n 0, 1) := dk_42 (dk_at dksX11_clause_11 11 rfl rfl)
theorem dX11_clause_292 : decode cX11_clause 292 = .ok (.aload_n 0, 1) := dk_42 (dk_at dksX11_clause_11 12 rfl rfl)
theorem dX11_clause_293 : decode cX11_clause 293 = .ok (.getfield 44, 3) := dk_180 0 44 (dk_at dksX11_clause_11 13 rfl rfl)
theorem dX11_clause_296 : decode cX11_clause 296 = .ok (.getfield 77, 3) := dk_180 0 77 (dk_at dksX11_clause_11 16 rfl rfl)
theorem dX11_clause_299 : decode cX11_clause 299 = .ok (.invokevirtual 121, 3) := dk_182 0 121 (dk_at dksX11_clause_11 19 rfl rfl)
theorem dX11_clause_302 : decode cX11_clause 302 = .ok (.goto 176, 3) := dk_167 0 176 (dk_at dksX11_clause_12 0 rfl rfl)
theorem dX11_clause_305 : decode cX11_clause 305 = .ok (.aload_n 0, 1) := dk_42 (dk_at dksX11_clause_12 3 rfl rfl)
theorem dX11_clause_306 : decode cX11_clause 306 = .ok (.getfield 48, 3) := dk_180 0 48 (dk_at dksX11_clause_12 4 rfl rfl)
theorem dX11_clause_309 : decode cX11_clause 309 = .ok (.iconst 0, 1) := dk_3 (dk_at dksX11_clause_12 7 rfl rfl)
theorem dX11_clause_310 : decode cX11_clause 310 = .ok (.aload_n 0, 1) := dk_42 (dk_at dksX11_clause_12 8 rfl rfl)
theorem dX11_clause_311 : decode cX11_clause 311 = .ok (.getfield 44, 3) := dk_180 0 44 (dk_at dksX11_clause_12 9 rfl rfl)
theorem dX11_clause_314 : decode cX11_clause 314 = .ok (.getfield 65, 3) := dk_180 0 65 (dk_at dksX11_clause_12 12 rfl rfl)
theorem dX11_clause_317 : decode cX11_clause 317 = .ok (.iconst 1, 1) := dk_4 (dk_at dksX11_clause_12 15 rfl rfl)
theorem dX11_clause_318 : decode cX11_clause 318 = .ok (.isub, 1) := dk_100 (dk_at dksX11_clause_12 16 rfl rfl)
theorem dX11_clause_319 : decode cX11_clause 319 = .ok (.invokevirtual 106, 3) := dk_182 0 106 (dk_at dksX11_clause_12 17 rfl rfl)
theorem dX11_clause_322 : decode cX11_clause 322 = .ok (.istore_n 3, 1) := dk_62 (dk_at dksX11_clause_12 20 rfl rfl)
theorem dX11_clause_323 : decode cX11_clause 323 = .ok (.aload_n 0, 1) := dk_42 (dk_at dksX11_clause_12 21 rfl rfl)
theorem dX11_clause_324 : decode cX11_clause 324 = .ok (.getfield 44, 3) := dk_180 0 44 (dk_at dksX11_clause_13 0 rfl rfl)
theorem dX11_clause_327 : decode cX11_clause 327 = .ok (.getfield 123, 3) := dk_180 0 123 (dk_at dksX11_clause_13 3 rfl rfl)
theorem dX11_clause_330 : decode cX11_clause 330 = .ok (.iload_n 3, 1) := dk_29 (dk_at dksX11_clause_13 6 rfl rfl)
theorem dX11_clause_331 : decode cX11_clause 331 = .ok (.dup2, 1) := dk_92 (dk_at dksX11_clause_13 7 rfl rfl)
theorem dX11_clause_332 : decode cX11_clause 332 = .ok (.iaload, 1) := dk_46 (dk_at dksX11_clause_13 8 rfl rfl)
theorem dX11_clause_333 : decode cX11_clause 333 = .ok (.iconst 1, 1) := dk_4 (dk_at dksX11_clause_13 9 rfl rfl)
theorem dX11_clause_334 : decode cX11_clause 334 = .ok (.aload_n 0, 1) := dk_42 (dk_at dksX11_clause_13 10 rfl rfl)
theorem dX11_clause_335 : decode cX11_clause 335 = .ok (.getfield 48, 3) := dk_180 0 48 (dk_at dksX11_clause_13 11 rfl rfl)
theorem dX11_clause_338 : decode cX11_clause 338 = .ok (.iconst 0, 1) := dk_3 (dk_at dksX11_clause_13 14 rfl rfl)
theorem dX11_clause_339 : decode cX11_clause 339 = .ok (.iload_n 3, 1) := dk_29 (dk_at dksX11_clause_13 15 rfl rfl)
theorem dX11_clause_340 : decode cX11_clause 340 = .ok (.iconst 1, 1) := dk_4 (dk_at dksX11_clause_13 16 rfl rfl)
theorem dX11_clause_341 : decode cX11_clause 341 = .ok (.isub, 1) := dk_100 (dk_at dksX11_clause_13 17 rfl rfl)
theorem dX11_clause_342 : decode cX11_clause 342 = .ok (.invokevirtual 106, 3) := dk_182 0 106 (dk_at dksX11_clause_13 18 rfl rfl)
theorem dX11_clause_345 : decode cX11_clause 345 = .ok (.ishl, 1) := dk_120 (dk_at dksX11_clause_13 21 rfl rfl)
theorem dX11_clause_346 : decode cX11_clause 346 = .ok (.ior, 1) := dk_128 (dk_at dksX11_clause_13 22 rfl rfl)
theorem dX11_clause_347 : decode cX11_clause 347 = .ok (.iastore, 1) := dk_79 (dk_at dksX11_clause_13 23 rfl rfl)
theorem dX11_clause_348 : decode cX11_clause 348 = .ok (.goto 130, 3) := dk_167 0 130 (dk_at dksX11_clause_14 0 rfl rfl)
theorem dX11_clause_351 : decode cX11_clause 351 = .ok (.aload_n 0, 1) := dk_42 (dk_at dksX11_clause_14 3 rfl rfl)
theorem dX11_clause_352 : decode cX11_clause 352 = .ok (.getfield 48, 3) := dk_180 0 48 (dk_at dksX11_clause_14 4 rfl rfl)
theorem dX11_clause_355 : decode cX11_clause 355 = .ok (.iconst 0, 1) := dk_3 (dk_at dksX11_clause_14 7 rfl rfl)
theorem dX11_clause_356 : decode cX11_clause 356 = .ok (.bipush 59, 2) := dk_16 59 (dk_at dksX11_clause_14 8 rfl rfl)
theorem dX11_clause_358 : decode cX11_clause 358 = .ok (.invokevirtual 106, 3) := dk_182 0 106 (dk_at dksX11_clause_14 10 rfl rfl)
theorem dX11_clause_361 : decode cX11_clause 361 = .ok (.istore_n 3, 1) := dk_62 (dk_at dksX11_clause_14 13 rfl rfl)
theorem dX11_clause_362 : decode cX11_clause 362 = .ok (.aload_n 0, 1) := dk_42 (dk_at dksX11_clause_14 14 rfl rfl)
theorem dX11_clause_363 : decode cX11_clause 363 = .ok (.getfield 44, 3) := dk_180 0 44 (dk_at dksX11_clause_14 15 rfl rfl)
theorem dX11_clause_366 : decode cX11_clause 366 = .ok (.getfield 125, 3) := dk_180 0 125 (dk_at dksX11_clause_14 18 rfl rfl)
theorem dX11_clause_369 : decode cX11_clause 369 = .ok (.iload_n 3, 1) := dk_29 (dk_at dksX11_clause_14 21 rfl rfl)
theorem dX11_clause_370 : decode cX11_clause 370 = .ok (.aload_n 0, 1) := dk_42 (dk_at dksX11_clause_14 22 rfl rfl)
theorem dX11_clause_371 : decode cX11_clause 371 = .ok (.getfield 48, 3) := dk_180 0 48 (dk_at dksX11_clause_15 0 rfl rfl)
theorem dX11_clause_374 : decode cX11_clause 374 = .ok (.iconst 0, 1) := dk_3 (dk_at dksX11_clause_15 3 rfl rfl)
theorem dX11_clause_375 : decode cX11_clause 375 = .ok (.bipush 20, 2) := dk_16 20 (dk_at dksX11_clause_15 4 rfl rfl)
theorem dX11_clause_377 : decode cX11_clause 377 = .ok (.invokevirtual 106, 3) := dk_182 0 106 (dk_at dksX11_clause_15 6 rfl rfl)
theorem dX11_clause_380 : decode cX11_clause 380 = .ok (.iastore, 1) := dk_79 (dk_at dksX11_clause_15 9 rfl rfl)
theorem dX11_clause_381 : decode cX11_clause 381 = .ok (.goto 97, 3) := dk_167 0 97 (dk_at dksX11_clause_15 10 rfl rfl)
theorem dX11_clause_384 : decode cX11_clause 384 = .ok (.aload_n 0, 1) := dk_42 (dk_at dksX11_clause_15 13 rfl rfl)
theorem dX11_clause_385 : decode cX11_clause 385 = .ok (.getfield 44, 3) := dk_180 0 44 (dk_at dksX11_clause_15 14 rfl rfl)
theorem dX11_clause_388 : decode cX11_clause 388 = .ok (.aload_n 0, 1) := dk_42 (dk_at dksX11_clause_15 17 rfl rfl)
theorem dX11_clause_389 : decode cX11_clause 389 = .ok (.getfield 48, 3) := dk_180 0 48 (dk_at dksX11_clause_15 18 rfl rfl)
theorem dX11_clause_392 : decode cX11_clause 392 = .ok (.iconst 1, 1) := dk_4 (dk_at dksX11_clause_15 21 rfl rfl)
theorem dX11_clause_393 : decode cX11_clause 393 = .ok (.bipush 99, 2) := dk_16 99 (dk_at dksX11_clause_15 22 rfl rfl)
theorem dX11_clause_395 : decode cX11_clause 395 = .ok (.invokevirtual 106, 3) := dk_182 0 106 (dk_at dksX11_clause_16 0 rfl rfl)
theorem dX11_clause_398 : decode cX11_clause 398 = .ok (.putfield 128, 3) := dk_181 0 128 (dk_at dksX11_clause_16 3 rfl rfl)
theorem dX11_clause_401 : decode cX11_clause 401 = .ok (.goto 77, 3) := dk_167 0 77 (dk_at dksX11_clause_16 6 rfl rfl)
theorem dX11_clause_404 : decode cX11_clause 404 = .ok (.aload_n 0, 1) := dk_42 (dk_at dksX11_clause_16 9 rfl rfl)
theorem dX11_clause_405 : decode cX11_clause 405 = .ok (.getfield 44, 3) := dk_180 0 44 (dk_at dksX11_clause_16 10 rfl rfl)
theorem dX11_clause_408 : decode cX11_clause 408 = .ok (.aload_n 0, 1) := dk_42 (dk_at dksX11_clause_16 13 rfl rfl)
theorem dX11_clause_409 : decode cX11_clause 409 = .ok (.getfield 48, 3) := dk_180 0 48 (dk_at dksX11_clause_16 14 rfl rfl)
theorem dX11_clause_412 : decode cX11_clause 412 = .ok (.iconst 0, 1) := dk_3 (dk_at dksX11_clause_16 17 rfl rfl)
theorem dX11_clause_413 : decode cX11_clause 413 = .ok (.bipush 16, 2) := dk_16 16 (dk_at dksX11_clause_16 18 rfl rfl)
theorem dX11_clause_415 : decode cX11_clause 415 = .ok (.invokevirtual 106, 3) := dk_182 0 106 (dk_at dksX11_clause_16 20 rfl rfl)
theorem dX11_clause_418 : decode cX11_clause 418 = .ok (.putfield 130, 3) := dk_181 0 130 (dk_at dksX11_clause_17 0 rfl rfl)
theorem dX11_clause_421 : decode cX11_clause 421 = .ok (.goto 57, 3) := dk_167 0 57 (dk_at dksX11_clause_17 3 rfl rfl)
theorem dX11_clause_424 : decode cX11_clause 424 = .ok (.aload_n 0, 1) := dk_42 (dk_at dksX11_clause_17 6 rfl rfl)
theorem dX11_clause_425 : decode cX11_clause 425 = .ok (.getfield 44, 3) := dk_180 0 44 (dk_at dksX11_clause_17 7 rfl rfl)
theorem dX11_clause_428 : decode cX11_clause 428 = .ok (.aload_n 0, 1) := dk_42 (dk_at dksX11_clause_17 10 rfl rfl)
theorem dX11_clause_429 : decode cX11_clause 429 = .ok (.getfield 48, 3) := dk_180 0 48 (dk_at dksX11_clause_17 11 rfl rfl)
theorem dX11_clause_432 : decode cX11_clause 432 = .ok (.iconst 0, 1) := dk_3 (dk_at dksX11_clause_17 14 rfl rfl)
theorem dX11_clause_433 : decode cX11_clause 433 = .ok (.bipush 16, 2) := dk_16 16 (dk_at dksX11_clause_17 15 rfl rfl)
theorem dX11_clause_435 : decode cX11_clause 435 = .ok (.invokevirtual 106, 3) := dk_182 0 106 (dk_at dksX11_clause_17 17 rfl rfl)
theorem dX11_clause_438 : decode cX11_clause 438 = .ok (.putfield 132, 3) := dk_181 0 132 (dk_at dksX11_clause_17 20 rfl rfl)
theorem dX11_clause_441 : decode cX11_clause 441 = .ok (.goto 37, 3) := dk_167 0 37 (dk_at dksX11_clause_18 0 rfl rfl)
theorem dX11_clause_444 : decode cX11_clause 444 = .ok (.aload_n 0, 1) := dk_42 (dk_at dksX11_clause_18 3 rfl rfl)
theorem dX11_clause_445 : decode cX11_clause 445 = .ok (.getfield 44, 3) := dk_180 0 44 (dk_at dksX11_clause_18 4 rfl rfl)
theorem dX11_clause_448 : decode cX11_clause 448 = .ok (.aload_n 0, 1) := dk_42 (dk_at dksX11_clause_18 7 rfl rfl)
theorem dX11_clause_449 : decode cX11_clause 449 = .ok (.getfield 48, 3) := dk_180 0 48 (dk_at dksX11_clause_18 8 rfl rfl)
theorem dX11_clause_452 : decode cX11_clause 452 = .ok (.iconst 0, 1) := dk_3 (dk_at dksX11_clause_18 11 rfl rfl)
theorem dX11_clause_453 : decode cX11_clause 453 = .ok (.bipush 99, 2) := dk_16 99 (dk_at dksX11_clause_18 12 rfl rfl)
theorem dX11_clause_455 : decode cX11_clause 455 = .ok (.invokevirtual 106, 3) := dk_182 0 106 (dk_at dksX11_clause_18 14 rfl rfl)
theorem dX11_clause_458 : decode cX11_clause 458 = .ok (.putfield 134, 3) := dk_181 0 134 (dk_at dksX11_clause_18 17 rfl rfl)
theorem dX11_clause_461 : decode cX11_clause 461 = .ok (.aload_n 0, 1) := dk_42 (dk_at dksX11_clause_18 20 rfl rfl)
theorem dX11_clause_462 : decode cX11_clause 462 = .ok (.getfield 44, 3) := dk_180 0 44 (dk_at dksX11_clause_18 21 rfl rfl)
theorem dX11_clause_465 : decode cX11_clause 465 = .ok (.aload_n 0, 1) := dk_42 (dk_at dksX11_clause_19 0 rfl rfl)
theorem dX11_clause_466 : decode cX11_clause 466 = .ok (.getfield 48, 3) := dk_180 0 48 (dk_at dksX11_clause_19 1 rfl rfl)
theorem dX11_clause_469 : decode cX11_clause 469 = .ok (.iconst 1, 1) := dk_4 (dk_at dksX11_clause_19 4 rfl rfl)
theorem dX11_clause_470 : decode cX11_clause 470 = .ok (.bipush 9, 2) := dk_16 9 (dk_at dksX11_clause_19 5 rfl rfl)
theorem dX11_clause_472 : decode cX11_clause 472 = .ok (.invokevirtual 106, 3) := dk_182 0 106 (dk_at dksX11_clause_19 7 rfl rfl)
theorem dX11_clause_475 : decode cX11_clause 475 = .ok (.putfield 136, 3) := dk_181 0 136 (dk_at dksX11_clause_19 10 rfl rfl)
theorem dX11_clause_478 : decode cX11_clause 478 = .ok (.aload_n 0, 1) := dk_42 (dk_at dksX11_clause_19 13 rfl rfl)
theorem dX11_clause_479 : decode cX11_clause 479 = .ok (.getfield 48, 3) := dk_180 0 48 (dk_at dksX11_clause_19 14 rfl rfl)
theorem dX11_clause_482 : decode cX11_clause 482 = .ok (.bipush 59, 2) := dk_16 59 (dk_at dksX11_clause_19 17 rfl rfl)
theorem dX11_clause_484 : decode cX11_clause 484 = .ok (.invokevirtual 139, 3) := dk_182 0 139 (dk_at dksX11_clause_19 19 rfl rfl)
theorem dX11_clause_487 : decode cX11_clause 487 = .ok (.return_, 1) := dk_177 (dk_at dksX11_clause_19 22 rfl rfl)
abbrev cX11_isFull : ByteArray := prog_11_method_3_code
def yX11_isFull : MethodName := ⟨RX11, "isFull", "(I)Z"⟩
def dkwX11_isFull_4 : List UInt8 := [180, 0, 77, 7, 160, 0, 7, 4, 167, 0, 4, 3, 172]
abbrev dktX11_isFull_4 : List UInt8 := dkwX11_isFull_4 ++ []
def dkwX11_isFull_3 : List UInt8 := [160, 0, 15, 42, 180, 0, 44, 180, 0, 74, 16, 8, 159, 0, 19, 27, 8, 160, 0, 18, 42, 180, 0, 44]
abbrev dktX11_isFull_3 : List UInt8 := dkwX11_isFull_3 ++ dktX11_isFull_4
def dkwX11_isFull_2 : List UInt8 := [159, 0, 53, 27, 6, 160, 0, 15, 42, 180, 0, 44, 180, 0, 71, 16, 6, 159, 0, 36, 27, 7]
abbrev dktX11_isFull_2 : List UInt8 := dkwX11_isFull_2 ++ dktX11_isFull_3
def dkwX11_isFull_1 : List UInt8 := [180, 0, 65, 16, 12, 159, 0, 70, 27, 5, 160, 0, 15, 42, 180, 0, 44, 180, 0, 68, 16, 6]
abbrev dktX11_isFull_1 : List UInt8 := dkwX11_isFull_1 ++ dktX11_isFull_2
def dkwX11_isFull_0 : List UInt8 := [27, 154, 0, 14, 42, 180, 0, 44, 180, 0, 61, 7, 159, 0, 87, 27, 4, 160, 0, 15, 42, 180, 0, 44]
abbrev dktX11_isFull_0 : List UInt8 := dkwX11_isFull_0 ++ dktX11_isFull_1
theorem dksX11_isFull_0 : cX11_isFull.data.toList.drop 0 = dktX11_isFull_0 := by decide +kernel
theorem dksX11_isFull_1 : cX11_isFull.data.toList.drop 24 = dktX11_isFull_1 := dk_seg dksX11_isFull_0 24 rfl rfl
theorem dksX11_isFull_2 : cX11_isFull.data.toList.drop 46 = dktX11_isFull_2 := dk_seg dksX11_isFull_1 22 rfl rfl
theorem dksX11_isFull_3 : cX11_isFull.data.toList.drop 68 = dktX11_isFull_3 := dk_seg dksX11_isFull_2 22 rfl rfl
theorem dksX11_isFull_4 : cX11_isFull.data.toList.drop 92 = dktX11_isFull_4 := dk_seg dksX11_isFull_3 24 rfl rfl
theorem dX11_isFull_0 : decode cX11_isFull 0 = .ok (.iload_n 1, 1) := dk_27 (dk_at dksX11_isFull_0 0 rfl rfl)
theorem dX11_isFull_1 : decode cX11_isFull 1 = .ok (.ifCond .ne 14, 3) := dk_154 0 14 (dk_at dksX11_isFull_0 1 rfl rfl)
theorem dX11_isFull_4 : decode cX11_isFull 4 = .ok (.aload_n 0, 1) := dk_42 (dk_at dksX11_isFull_0 4 rfl rfl)
theorem dX11_isFull_5 : decode cX11_isFull 5 = .ok (.getfield 44, 3) := dk_180 0 44 (dk_at dksX11_isFull_0 5 rfl rfl)
theorem dX11_isFull_8 : decode cX11_isFull 8 = .ok (.getfield 61, 3) := dk_180 0 61 (dk_at dksX11_isFull_0 8 rfl rfl)
theorem dX11_isFull_11 : decode cX11_isFull 11 = .ok (.iconst 4, 1) := dk_7 (dk_at dksX11_isFull_0 11 rfl rfl)
theorem dX11_isFull_12 : decode cX11_isFull 12 = .ok (.if_icmp .eq 87, 3) := dk_159 0 87 (dk_at dksX11_isFull_0 12 rfl rfl)
theorem dX11_isFull_15 : decode cX11_isFull 15 = .ok (.iload_n 1, 1) := dk_27 (dk_at dksX11_isFull_0 15 rfl rfl)
theorem dX11_isFull_16 : decode cX11_isFull 16 = .ok (.iconst 1, 1) := dk_4 (dk_at dksX11_isFull_0 16 rfl rfl)
theorem dX11_isFull_17 : decode cX11_isFull 17 = .ok (.if_icmp .ne 15, 3) := dk_160 0 15 (dk_at dksX11_isFull_0 17 rfl rfl)
theorem dX11_isFull_20 : decode cX11_isFull 20 = .ok (.aload_n 0, 1) := dk_42 (dk_at dksX11_isFull_0 20 rfl rfl)
theorem dX11_isFull_21 : decode cX11_isFull 21 = .ok (.getfield 44, 3) := dk_180 0 44 (dk_at dksX11_isFull_0 21 rfl rfl)
theorem dX11_isFull_24 : decode cX11_isFull 24 = .ok (.getfield 65, 3) := dk_180 0 65 (dk_at dksX11_isFull_1 0 rfl rfl)
theorem dX11_isFull_27 : decode cX11_isFull 27 = .ok (.bipush 12, 2) := dk_16 12 (dk_at dksX11_isFull_1 3 rfl rfl)
theorem dX11_isFull_29 : decode cX11_isFull 29 = .ok (.if_icmp .eq 70, 3) := dk_159 0 70 (dk_at dksX11_isFull_1 5 rfl rfl)
theorem dX11_isFull_32 : decode cX11_isFull 32 = .ok (.iload_n 1, 1) := dk_27 (dk_at dksX11_isFull_1 8 rfl rfl)
theorem dX11_isFull_33 : decode cX11_isFull 33 = .ok (.iconst 2, 1) := dk_5 (dk_at dksX11_isFull_1 9 rfl rfl)
theorem dX11_isFull_34 : decode cX11_isFull 34 = .ok (.if_icmp .ne 15, 3) := dk_160 0 15 (dk_at dksX11_isFull_1 10 rfl rfl)
theorem dX11_isFull_37 : decode cX11_isFull 37 = .ok (.aload_n 0, 1) := dk_42 (dk_at dksX11_isFull_1 13 rfl rfl)
theorem dX11_isFull_38 : decode cX11_isFull 38 = .ok (.getfield 44, 3) := dk_180 0 44 (dk_at dksX11_isFull_1 14 rfl rfl)
theorem dX11_isFull_41 : decode cX11_isFull 41 = .ok (.getfield 68, 3) := dk_180 0 68 (dk_at dksX11_isFull_1 17 rfl rfl)
theorem dX11_isFull_44 : decode cX11_isFull 44 = .ok (.bipush 6, 2) := dk_16 6 (dk_at dksX11_isFull_1 20 rfl rfl)
theorem dX11_isFull_46 : decode cX11_isFull 46 = .ok (.if_icmp .eq 53, 3) := dk_159 0 53 (dk_at dksX11_isFull_2 0 rfl rfl)
theorem dX11_isFull_49 : decode cX11_isFull 49 = .ok (.iload_n 1, 1) := dk_27 (dk_at dksX11_isFull_2 3 rfl rfl)
theorem dX11_isFull_50 : decode cX11_isFull 50 = .ok (.iconst 3, 1) := dk_6 (dk_at dksX11_isFull_2 4 rfl rfl)
theorem dX11_isFull_51 : decode cX11_isFull 51 = .ok (.if_icmp .ne 15, 3) := dk_160 0 15 (dk_at dksX11_isFull_2 5 rfl rfl)
theorem dX11_isFull_54 : decode cX11_isFull 54 = .ok (.aload_n 0, 1) := dk_42 (dk_at dksX11_isFull_2 8 rfl rfl)
theorem dX11_isFull_55 : decode cX11_isFull 55 = .ok (.getfield 44, 3) := dk_180 0 44 (dk_at dksX11_isFull_2 9 rfl rfl)
theorem dX11_isFull_58 : decode cX11_isFull 58 = .ok (.getfield 71, 3) := dk_180 0 71 (dk_at dksX11_isFull_2 12 rfl rfl)
theorem dX11_isFull_61 : decode cX11_isFull 61 = .ok (.bipush 6, 2) := dk_16 6 (dk_at dksX11_isFull_2 15 rfl rfl)
theorem dX11_isFull_63 : decode cX11_isFull 63 = .ok (.if_icmp .eq 36, 3) := dk_159 0 36 (dk_at dksX11_isFull_2 17 rfl rfl)
theorem dX11_isFull_66 : decode cX11_isFull 66 = .ok (.iload_n 1, 1) := dk_27 (dk_at dksX11_isFull_2 20 rfl rfl)
theorem dX11_isFull_67 : decode cX11_isFull 67 = .ok (.iconst 4, 1) := dk_7 (dk_at dksX11_isFull_2 21 rfl rfl)
theorem dX11_isFull_68 : decode cX11_isFull 68 = .ok (.if_icmp .ne 15, 3) := dk_160 0 15 (dk_at dksX11_isFull_3 0 rfl rfl)
theorem dX11_isFull_71 : decode cX11_isFull 71 = .ok (.aload_n 0, 1) := dk_42 (dk_at dksX11_isFull_3 3 rfl rfl)
theorem dX11_isFull_72 : decode cX11_isFull 72 = .ok (.getfield 44, 3) := dk_180 0 44 (dk_at dksX11_isFull_3 4 rfl rfl)
theorem dX11_isFull_75 : decode cX11_isFull 75 = .ok (.getfield 74, 3) := dk_180 0 74 (dk_at dksX11_isFull_3 7 rfl rfl)
theorem dX11_isFull_78 : decode cX11_isFull 78 = .ok (.bipush 8, 2) := dk_16 8 (dk_at dksX11_isFull_3 10 rfl rfl)
theorem dX11_isFull_80 : decode cX11_isFull 80 = .ok (.if_icmp .eq 19, 3) := dk_159 0 19 (dk_at dksX11_isFull_3 12 rfl rfl)
theorem dX11_isFull_83 : decode cX11_isFull 83 = .ok (.iload_n 1, 1) := dk_27 (dk_at dksX11_isFull_3 15 rfl rfl)
theorem dX11_isFull_84 : decode cX11_isFull 84 = .ok (.iconst 5, 1) := dk_8 (dk_at dksX11_isFull_3 16 rfl rfl)
theorem dX11_isFull_85 : decode cX11_isFull 85 = .ok (.if_icmp .ne 18, 3) := dk_160 0 18 (dk_at dksX11_isFull_3 17 rfl rfl)
theorem dX11_isFull_88 : decode cX11_isFull 88 = .ok (.aload_n 0, 1) := dk_42 (dk_at dksX11_isFull_3 20 rfl rfl)
theorem dX11_isFull_89 : decode cX11_isFull 89 = .ok (.getfield 44, 3) := dk_180 0 44 (dk_at dksX11_isFull_3 21 rfl rfl)
theorem dX11_isFull_92 : decode cX11_isFull 92 = .ok (.getfield 77, 3) := dk_180 0 77 (dk_at dksX11_isFull_4 0 rfl rfl)
theorem dX11_isFull_95 : decode cX11_isFull 95 = .ok (.iconst 4, 1) := dk_7 (dk_at dksX11_isFull_4 3 rfl rfl)
theorem dX11_isFull_96 : decode cX11_isFull 96 = .ok (.if_icmp .ne 7, 3) := dk_160 0 7 (dk_at dksX11_isFull_4 4 rfl rfl)
theorem dX11_isFull_99 : decode cX11_isFull 99 = .ok (.iconst 1, 1) := dk_4 (dk_at dksX11_isFull_4 7 rfl rfl)
theorem dX11_isFull_100 : decode cX11_isFull 100 = .ok (.goto 4, 3) := dk_167 0 4 (dk_at dksX11_isFull_4 8 rfl rfl)
theorem dX11_isFull_103 : decode cX11_isFull 103 = .ok (.iconst 0, 1) := dk_3 (dk_at dksX11_isFull_4 11 rfl rfl)
theorem dX11_isFull_104 : decode cX11_isFull 104 = .ok (.ireturn, 1) := dk_172 (dk_at dksX11_isFull_4 12 rfl rfl)
abbrev cX11_deed : ByteArray := prog_11_method_5_code
def yX11_deed : MethodName := ⟨RX11, "deed", "(I)V"⟩
def dkwX11_deed_3 : List UInt8 := [182, 0, 106, 79, 42, 180, 0, 44, 89, 180, 0, 65, 4, 96, 181, 0, 65, 177]
abbrev dktX11_deed_3 : List UInt8 := dkwX11_deed_3 ++ []
def dkwX11_deed_2 : List UInt8 := [180, 0, 48, 4, 5, 182, 0, 106, 79, 42, 180, 0, 44, 180, 0, 152, 27, 42, 180, 0, 48, 3, 16, 18]
abbrev dktX11_deed_2 : List UInt8 := dkwX11_deed_2 ++ dktX11_deed_3
def dkwX11_deed_1 : List UInt8 := [180, 0, 146, 27, 42, 180, 0, 48, 3, 4, 182, 0, 106, 79, 42, 180, 0, 44, 180, 0, 149, 27, 42]
abbrev dktX11_deed_1 : List UInt8 := dkwX11_deed_1 ++ dktX11_deed_2
def dkwX11_deed_0 : List UInt8 := [42, 180, 0, 44, 180, 0, 143, 27, 42, 180, 0, 48, 4, 16, 30, 182, 0, 106, 79, 42, 180, 0, 44]
abbrev dktX11_deed_0 : List UInt8 := dkwX11_deed_0 ++ dktX11_deed_1
theorem dksX11_deed_0 : cX11_deed.data.toList.drop 0 = dktX11_deed_0 := by decide +kernel
theorem dksX11_deed_1 : cX11_deed.data.toList.drop 23 = dktX11_deed_1 := dk_seg dksX11_deed_0 23 rfl rfl
theorem dksX11_deed_2 : cX11_deed.data.toList.drop 46 = dktX11_deed_2 := dk_seg dksX11_deed_1 23 rfl rfl
theorem dksX11_deed_3 : cX11_deed.data.toList.drop 70 = dktX11_deed_3 := dk_seg dksX11_deed_2 24 rfl rfl
theorem dX11_deed_0 : decode cX11_deed 0 = .ok (.aload_n 0, 1) := dk_42 (dk_at dksX11_deed_0 0 rfl rfl)
theorem dX11_deed_1 : decode cX11_deed 1 = .ok (.getfield 44, 3) := dk_180 0 44 (dk_at dksX11_deed_0 1 rfl rfl)
theorem dX11_deed_4 : decode cX11_deed 4 = .ok (.getfield 143, 3) := dk_180 0 143 (dk_at dksX11_deed_0 4 rfl rfl)
theorem dX11_deed_7 : decode cX11_deed 7 = .ok (.iload_n 1, 1) := dk_27 (dk_at dksX11_deed_0 7 rfl rfl)
theorem dX11_deed_8 : decode cX11_deed 8 = .ok (.aload_n 0, 1) := dk_42 (dk_at dksX11_deed_0 8 rfl rfl)
theorem dX11_deed_9 : decode cX11_deed 9 = .ok (.getfield 48, 3) := dk_180 0 48 (dk_at dksX11_deed_0 9 rfl rfl)
theorem dX11_deed_12 : decode cX11_deed 12 = .ok (.iconst 1, 1) := dk_4 (dk_at dksX11_deed_0 12 rfl rfl)
theorem dX11_deed_13 : decode cX11_deed 13 = .ok (.bipush 30, 2) := dk_16 30 (dk_at dksX11_deed_0 13 rfl rfl)
theorem dX11_deed_15 : decode cX11_deed 15 = .ok (.invokevirtual 106, 3) := dk_182 0 106 (dk_at dksX11_deed_0 15 rfl rfl)
theorem dX11_deed_18 : decode cX11_deed 18 = .ok (.iastore, 1) := dk_79 (dk_at dksX11_deed_0 18 rfl rfl)
theorem dX11_deed_19 : decode cX11_deed 19 = .ok (.aload_n 0, 1) := dk_42 (dk_at dksX11_deed_0 19 rfl rfl)
theorem dX11_deed_20 : decode cX11_deed 20 = .ok (.getfield 44, 3) := dk_180 0 44 (dk_at dksX11_deed_0 20 rfl rfl)
theorem dX11_deed_23 : decode cX11_deed 23 = .ok (.getfield 146, 3) := dk_180 0 146 (dk_at dksX11_deed_1 0 rfl rfl)
theorem dX11_deed_26 : decode cX11_deed 26 = .ok (.iload_n 1, 1) := dk_27 (dk_at dksX11_deed_1 3 rfl rfl)
theorem dX11_deed_27 : decode cX11_deed 27 = .ok (.aload_n 0, 1) := dk_42 (dk_at dksX11_deed_1 4 rfl rfl)
theorem dX11_deed_28 : decode cX11_deed 28 = .ok (.getfield 48, 3) := dk_180 0 48 (dk_at dksX11_deed_1 5 rfl rfl)
theorem dX11_deed_31 : decode cX11_deed 31 = .ok (.iconst 0, 1) := dk_3 (dk_at dksX11_deed_1 8 rfl rfl)
theorem dX11_deed_32 : decode cX11_deed 32 = .ok (.iconst 1, 1) := dk_4 (dk_at dksX11_deed_1 9 rfl rfl)
theorem dX11_deed_33 : decode cX11_deed 33 = .ok (.invokevirtual 106, 3) := dk_182 0 106 (dk_at dksX11_deed_1 10 rfl rfl)
theorem dX11_deed_36 : decode cX11_deed 36 = .ok (.iastore, 1) := dk_79 (dk_at dksX11_deed_1 13 rfl rfl)
theorem dX11_deed_37 : decode cX11_deed 37 = .ok (.aload_n 0, 1) := dk_42 (dk_at dksX11_deed_1 14 rfl rfl)
theorem dX11_deed_38 : decode cX11_deed 38 = .ok (.getfield 44, 3) := dk_180 0 44 (dk_at dksX11_deed_1 15 rfl rfl)
theorem dX11_deed_41 : decode cX11_deed 41 = .ok (.getfield 149, 3) := dk_180 0 149 (dk_at dksX11_deed_1 18 rfl rfl)
theorem dX11_deed_44 : decode cX11_deed 44 = .ok (.iload_n 1, 1) := dk_27 (dk_at dksX11_deed_1 21 rfl rfl)
theorem dX11_deed_45 : decode cX11_deed 45 = .ok (.aload_n 0, 1) := dk_42 (dk_at dksX11_deed_1 22 rfl rfl)
theorem dX11_deed_46 : decode cX11_deed 46 = .ok (.getfield 48, 3) := dk_180 0 48 (dk_at dksX11_deed_2 0 rfl rfl)
theorem dX11_deed_49 : decode cX11_deed 49 = .ok (.iconst 1, 1) := dk_4 (dk_at dksX11_deed_2 3 rfl rfl)
theorem dX11_deed_50 : decode cX11_deed 50 = .ok (.iconst 2, 1) := dk_5 (dk_at dksX11_deed_2 4 rfl rfl)
theorem dX11_deed_51 : decode cX11_deed 51 = .ok (.invokevirtual 106, 3) := dk_182 0 106 (dk_at dksX11_deed_2 5 rfl rfl)
theorem dX11_deed_54 : decode cX11_deed 54 = .ok (.iastore, 1) := dk_79 (dk_at dksX11_deed_2 8 rfl rfl)
theorem dX11_deed_55 : decode cX11_deed 55 = .ok (.aload_n 0, 1) := dk_42 (dk_at dksX11_deed_2 9 rfl rfl)
theorem dX11_deed_56 : decode cX11_deed 56 = .ok (.getfield 44, 3) := dk_180 0 44 (dk_at dksX11_deed_2 10 rfl rfl)
theorem dX11_deed_59 : decode cX11_deed 59 = .ok (.getfield 152, 3) := dk_180 0 152 (dk_at dksX11_deed_2 13 rfl rfl)
theorem dX11_deed_62 : decode cX11_deed 62 = .ok (.iload_n 1, 1) := dk_27 (dk_at dksX11_deed_2 16 rfl rfl)
theorem dX11_deed_63 : decode cX11_deed 63 = .ok (.aload_n 0, 1) := dk_42 (dk_at dksX11_deed_2 17 rfl rfl)
theorem dX11_deed_64 : decode cX11_deed 64 = .ok (.getfield 48, 3) := dk_180 0 48 (dk_at dksX11_deed_2 18 rfl rfl)
theorem dX11_deed_67 : decode cX11_deed 67 = .ok (.iconst 0, 1) := dk_3 (dk_at dksX11_deed_2 21 rfl rfl)
theorem dX11_deed_68 : decode cX11_deed 68 = .ok (.bipush 18, 2) := dk_16 18 (dk_at dksX11_deed_2 22 rfl rfl)
theorem dX11_deed_70 : decode cX11_deed 70 = .ok (.invokevirtual 106, 3) := dk_182 0 106 (dk_at dksX11_deed_3 0 rfl rfl)
theorem dX11_deed_73 : decode cX11_deed 73 = .ok (.iastore, 1) := dk_79 (dk_at dksX11_deed_3 3 rfl rfl)
theorem dX11_deed_74 : decode cX11_deed 74 = .ok (.aload_n 0, 1) := dk_42 (dk_at dksX11_deed_3 4 rfl rfl)
theorem dX11_deed_75 : decode cX11_deed 75 = .ok (.getfield 44, 3) := dk_180 0 44 (dk_at dksX11_deed_3 5 rfl rfl)
theorem dX11_deed_78 : decode cX11_deed 78 = .ok (.dup, 1) := dk_89 (dk_at dksX11_deed_3 8 rfl rfl)
theorem dX11_deed_79 : decode cX11_deed 79 = .ok (.getfield 65, 3) := dk_180 0 65 (dk_at dksX11_deed_3 9 rfl rfl)
theorem dX11_deed_82 : decode cX11_deed 82 = .ok (.iconst 1, 1) := dk_4 (dk_at dksX11_deed_3 12 rfl rfl)
theorem dX11_deed_83 : decode cX11_deed 83 = .ok (.iadd, 1) := dk_96 (dk_at dksX11_deed_3 13 rfl rfl)
theorem dX11_deed_84 : decode cX11_deed 84 = .ok (.putfield 65, 3) := dk_181 0 65 (dk_at dksX11_deed_3 14 rfl rfl)
theorem dX11_deed_87 : decode cX11_deed 87 = .ok (.return_, 1) := dk_177 (dk_at dksX11_deed_3 17 rfl rfl)
abbrev cX11_rain : ByteArray := prog_11_method_6_code
def yX11_rain : MethodName := ⟨RX11, "rain", "(I)V"⟩
def dkwX11_rain_2 : List UInt8 := [42, 180, 0, 44, 89, 180, 0, 68, 4, 96, 181, 0, 68, 177]
abbrev dktX11_rain_2 : List UInt8 := dkwX11_rain_2 ++ []
def dkwX11_rain_1 : List UInt8 := [180, 0, 158, 27, 42, 180, 0, 48, 42, 180, 0, 44, 180, 0, 155, 27, 46, 17, 0, 240, 182, 0, 106, 79]
abbrev dktX11_rain_1 : List UInt8 := dkwX11_rain_1 ++ dktX11_rain_2
def dkwX11_rain_0 : List UInt8 := [42, 180, 0, 44, 180, 0, 155, 27, 42, 180, 0, 48, 3, 17, 0, 240, 182, 0, 106, 79, 42, 180, 0, 44]
abbrev dktX11_rain_0 : List UInt8 := dkwX11_rain_0 ++ dktX11_rain_1
theorem dksX11_rain_0 : cX11_rain.data.toList.drop 0 = dktX11_rain_0 := by decide +kernel
theorem dksX11_rain_1 : cX11_rain.data.toList.drop 24 = dktX11_rain_1 := dk_seg dksX11_rain_0 24 rfl rfl
theorem dksX11_rain_2 : cX11_rain.data.toList.drop 48 = dktX11_rain_2 := dk_seg dksX11_rain_1 24 rfl rfl
theorem dX11_rain_0 : decode cX11_rain 0 = .ok (.aload_n 0, 1) := dk_42 (dk_at dksX11_rain_0 0 rfl rfl)
theorem dX11_rain_1 : decode cX11_rain 1 = .ok (.getfield 44, 3) := dk_180 0 44 (dk_at dksX11_rain_0 1 rfl rfl)
theorem dX11_rain_4 : decode cX11_rain 4 = .ok (.getfield 155, 3) := dk_180 0 155 (dk_at dksX11_rain_0 4 rfl rfl)
theorem dX11_rain_7 : decode cX11_rain 7 = .ok (.iload_n 1, 1) := dk_27 (dk_at dksX11_rain_0 7 rfl rfl)
theorem dX11_rain_8 : decode cX11_rain 8 = .ok (.aload_n 0, 1) := dk_42 (dk_at dksX11_rain_0 8 rfl rfl)
theorem dX11_rain_9 : decode cX11_rain 9 = .ok (.getfield 48, 3) := dk_180 0 48 (dk_at dksX11_rain_0 9 rfl rfl)
theorem dX11_rain_12 : decode cX11_rain 12 = .ok (.iconst 0, 1) := dk_3 (dk_at dksX11_rain_0 12 rfl rfl)
theorem dX11_rain_13 : decode cX11_rain 13 = .ok (.sipush 240, 3) := dk_17 0 240 (dk_at dksX11_rain_0 13 rfl rfl)
theorem dX11_rain_16 : decode cX11_rain 16 = .ok (.invokevirtual 106, 3) := dk_182 0 106 (dk_at dksX11_rain_0 16 rfl rfl)
theorem dX11_rain_19 : decode cX11_rain 19 = .ok (.iastore, 1) := dk_79 (dk_at dksX11_rain_0 19 rfl rfl)
theorem dX11_rain_20 : decode cX11_rain 20 = .ok (.aload_n 0, 1) := dk_42 (dk_at dksX11_rain_0 20 rfl rfl)
theorem dX11_rain_21 : decode cX11_rain 21 = .ok (.getfield 44, 3) := dk_180 0 44 (dk_at dksX11_rain_0 21 rfl rfl)
theorem dX11_rain_24 : decode cX11_rain 24 = .ok (.getfield 158, 3) := dk_180 0 158 (dk_at dksX11_rain_1 0 rfl rfl)
theorem dX11_rain_27 : decode cX11_rain 27 = .ok (.iload_n 1, 1) := dk_27 (dk_at dksX11_rain_1 3 rfl rfl)
theorem dX11_rain_28 : decode cX11_rain 28 = .ok (.aload_n 0, 1) := dk_42 (dk_at dksX11_rain_1 4 rfl rfl)
theorem dX11_rain_29 : decode cX11_rain 29 = .ok (.getfield 48, 3) := dk_180 0 48 (dk_at dksX11_rain_1 5 rfl rfl)
theorem dX11_rain_32 : decode cX11_rain 32 = .ok (.aload_n 0, 1) := dk_42 (dk_at dksX11_rain_1 8 rfl rfl)
theorem dX11_rain_33 : decode cX11_rain 33 = .ok (.getfield 44, 3) := dk_180 0 44 (dk_at dksX11_rain_1 9 rfl rfl)
theorem dX11_rain_36 : decode cX11_rain 36 = .ok (.getfield 155, 3) := dk_180 0 155 (dk_at dksX11_rain_1 12 rfl rfl)
theorem dX11_rain_39 : decode cX11_rain 39 = .ok (.iload_n 1, 1) := dk_27 (dk_at dksX11_rain_1 15 rfl rfl)
theorem dX11_rain_40 : decode cX11_rain 40 = .ok (.iaload, 1) := dk_46 (dk_at dksX11_rain_1 16 rfl rfl)
theorem dX11_rain_41 : decode cX11_rain 41 = .ok (.sipush 240, 3) := dk_17 0 240 (dk_at dksX11_rain_1 17 rfl rfl)
theorem dX11_rain_44 : decode cX11_rain 44 = .ok (.invokevirtual 106, 3) := dk_182 0 106 (dk_at dksX11_rain_1 20 rfl rfl)
theorem dX11_rain_47 : decode cX11_rain 47 = .ok (.iastore, 1) := dk_79 (dk_at dksX11_rain_1 23 rfl rfl)
theorem dX11_rain_48 : decode cX11_rain 48 = .ok (.aload_n 0, 1) := dk_42 (dk_at dksX11_rain_2 0 rfl rfl)
theorem dX11_rain_49 : decode cX11_rain 49 = .ok (.getfield 44, 3) := dk_180 0 44 (dk_at dksX11_rain_2 1 rfl rfl)
theorem dX11_rain_52 : decode cX11_rain 52 = .ok (.dup, 1) := dk_89 (dk_at dksX11_rain_2 4 rfl rfl)
theorem dX11_rain_53 : decode cX11_rain 53 = .ok (.getfield 68, 3) := dk_180 0 68 (dk_at dksX11_rain_2 5 rfl rfl)
theorem dX11_rain_56 : decode cX11_rain 56 = .ok (.iconst 1, 1) := dk_4 (dk_at dksX11_rain_2 8 rfl rfl)
theorem dX11_rain_57 : decode cX11_rain 57 = .ok (.iadd, 1) := dk_96 (dk_at dksX11_rain_2 9 rfl rfl)
theorem dX11_rain_58 : decode cX11_rain 58 = .ok (.putfield 68, 3) := dk_181 0 68 (dk_at dksX11_rain_2 10 rfl rfl)
theorem dX11_rain_61 : decode cX11_rain 61 = .ok (.return_, 1) := dk_177 (dk_at dksX11_rain_2 13 rfl rfl)
abbrev cX11_cause : ByteArray := prog_11_method_7_code
def yX11_cause : MethodName := ⟨RX11, "cause", "(I)V"⟩
def dkwX11_cause_2 : List UInt8 := [132, 2, 1, 167, 255, 227, 42, 180, 0, 44, 89, 180, 0, 77, 4, 96, 181, 0, 77, 177]
abbrev dktX11_cause_2 : List UInt8 := dkwX11_cause_2 ++ []
def dkwX11_cause_1 : List UInt8 := [162, 0, 30, 42, 180, 0, 44, 180, 0, 164, 27, 50, 28, 42, 180, 0, 48, 3, 16, 16, 182, 0, 106, 79]
abbrev dktX11_cause_1 : List UInt8 := dkwX11_cause_1 ++ dktX11_cause_2
def dkwX11_cause_0 : List UInt8 := [42, 180, 0, 44, 180, 0, 161, 27, 42, 180, 0, 48, 4, 16, 16, 182, 0, 106, 79, 3, 61, 28, 6]
abbrev dktX11_cause_0 : List UInt8 := dkwX11_cause_0 ++ dktX11_cause_1
theorem dksX11_cause_0 : cX11_cause.data.toList.drop 0 = dktX11_cause_0 := by decide +kernel
theorem dksX11_cause_1 : cX11_cause.data.toList.drop 23 = dktX11_cause_1 := dk_seg dksX11_cause_0 23 rfl rfl
theorem dksX11_cause_2 : cX11_cause.data.toList.drop 47 = dktX11_cause_2 := dk_seg dksX11_cause_1 24 rfl rfl
theorem dX11_cause_0 : decode cX11_cause 0 = .ok (.aload_n 0, 1) := dk_42 (dk_at dksX11_cause_0 0 rfl rfl)
theorem dX11_cause_1 : decode cX11_cause 1 = .ok (.getfield 44, 3) := dk_180 0 44 (dk_at dksX11_cause_0 1 rfl rfl)
theorem dX11_cause_4 : decode cX11_cause 4 = .ok (.getfield 161, 3) := dk_180 0 161 (dk_at dksX11_cause_0 4 rfl rfl)
theorem dX11_cause_7 : decode cX11_cause 7 = .ok (.iload_n 1, 1) := dk_27 (dk_at dksX11_cause_0 7 rfl rfl)
theorem dX11_cause_8 : decode cX11_cause 8 = .ok (.aload_n 0, 1) := dk_42 (dk_at dksX11_cause_0 8 rfl rfl)
theorem dX11_cause_9 : decode cX11_cause 9 = .ok (.getfield 48, 3) := dk_180 0 48 (dk_at dksX11_cause_0 9 rfl rfl)
theorem dX11_cause_12 : decode cX11_cause 12 = .ok (.iconst 1, 1) := dk_4 (dk_at dksX11_cause_0 12 rfl rfl)
theorem dX11_cause_13 : decode cX11_cause 13 = .ok (.bipush 16, 2) := dk_16 16 (dk_at dksX11_cause_0 13 rfl rfl)
theorem dX11_cause_15 : decode cX11_cause 15 = .ok (.invokevirtual 106, 3) := dk_182 0 106 (dk_at dksX11_cause_0 15 rfl rfl)
theorem dX11_cause_18 : decode cX11_cause 18 = .ok (.iastore, 1) := dk_79 (dk_at dksX11_cause_0 18 rfl rfl)
theorem dX11_cause_19 : decode cX11_cause 19 = .ok (.iconst 0, 1) := dk_3 (dk_at dksX11_cause_0 19 rfl rfl)
theorem dX11_cause_20 : decode cX11_cause 20 = .ok (.istore_n 2, 1) := dk_61 (dk_at dksX11_cause_0 20 rfl rfl)
theorem dX11_cause_21 : decode cX11_cause 21 = .ok (.iload_n 2, 1) := dk_28 (dk_at dksX11_cause_0 21 rfl rfl)
theorem dX11_cause_22 : decode cX11_cause 22 = .ok (.iconst 3, 1) := dk_6 (dk_at dksX11_cause_0 22 rfl rfl)
theorem dX11_cause_23 : decode cX11_cause 23 = .ok (.if_icmp .ge 30, 3) := dk_162 0 30 (dk_at dksX11_cause_1 0 rfl rfl)
theorem dX11_cause_26 : decode cX11_cause 26 = .ok (.aload_n 0, 1) := dk_42 (dk_at dksX11_cause_1 3 rfl rfl)
theorem dX11_cause_27 : decode cX11_cause 27 = .ok (.getfield 44, 3) := dk_180 0 44 (dk_at dksX11_cause_1 4 rfl rfl)
theorem dX11_cause_30 : decode cX11_cause 30 = .ok (.getfield 164, 3) := dk_180 0 164 (dk_at dksX11_cause_1 7 rfl rfl)
theorem dX11_cause_33 : decode cX11_cause 33 = .ok (.iload_n 1, 1) := dk_27 (dk_at dksX11_cause_1 10 rfl rfl)
theorem dX11_cause_34 : decode cX11_cause 34 = .ok (.aaload, 1) := dk_50 (dk_at dksX11_cause_1 11 rfl rfl)
theorem dX11_cause_35 : decode cX11_cause 35 = .ok (.iload_n 2, 1) := dk_28 (dk_at dksX11_cause_1 12 rfl rfl)
theorem dX11_cause_36 : decode cX11_cause 36 = .ok (.aload_n 0, 1) := dk_42 (dk_at dksX11_cause_1 13 rfl rfl)
theorem dX11_cause_37 : decode cX11_cause 37 = .ok (.getfield 48, 3) := dk_180 0 48 (dk_at dksX11_cause_1 14 rfl rfl)
theorem dX11_cause_40 : decode cX11_cause 40 = .ok (.iconst 0, 1) := dk_3 (dk_at dksX11_cause_1 17 rfl rfl)
theorem dX11_cause_41 : decode cX11_cause 41 = .ok (.bipush 16, 2) := dk_16 16 (dk_at dksX11_cause_1 18 rfl rfl)
theorem dX11_cause_43 : decode cX11_cause 43 = .ok (.invokevirtual 106, 3) := dk_182 0 106 (dk_at dksX11_cause_1 20 rfl rfl)
theorem dX11_cause_46 : decode cX11_cause 46 = .ok (.iastore, 1) := dk_79 (dk_at dksX11_cause_1 23 rfl rfl)
theorem dX11_cause_47 : decode cX11_cause 47 = .ok (.iinc 2 1, 3) := dk_132 2 1 (dk_at dksX11_cause_2 0 rfl rfl)
theorem dX11_cause_50 : decode cX11_cause 50 = .ok (.goto (-29), 3) := dk_167 255 227 (dk_at dksX11_cause_2 3 rfl rfl)
theorem dX11_cause_53 : decode cX11_cause 53 = .ok (.aload_n 0, 1) := dk_42 (dk_at dksX11_cause_2 6 rfl rfl)
theorem dX11_cause_54 : decode cX11_cause 54 = .ok (.getfield 44, 3) := dk_180 0 44 (dk_at dksX11_cause_2 7 rfl rfl)
theorem dX11_cause_57 : decode cX11_cause 57 = .ok (.dup, 1) := dk_89 (dk_at dksX11_cause_2 10 rfl rfl)
theorem dX11_cause_58 : decode cX11_cause 58 = .ok (.getfield 77, 3) := dk_180 0 77 (dk_at dksX11_cause_2 11 rfl rfl)
theorem dX11_cause_61 : decode cX11_cause 61 = .ok (.iconst 1, 1) := dk_4 (dk_at dksX11_cause_2 14 rfl rfl)
theorem dX11_cause_62 : decode cX11_cause 62 = .ok (.iadd, 1) := dk_96 (dk_at dksX11_cause_2 15 rfl rfl)
theorem dX11_cause_63 : decode cX11_cause 63 = .ok (.putfield 77, 3) := dk_181 0 77 (dk_at dksX11_cause_2 16 rfl rfl)
theorem dX11_cause_66 : decode cX11_cause 66 = .ok (.return_, 1) := dk_177 (dk_at dksX11_cause_2 19 rfl rfl)
theorem q110 : (Jvm.Cond.initialized "RainWheel$RoadReader") ∈ lw_all := lw_g (lw_at lw_m1 15 rfl) rfl
theorem q356 : (Jvm.Cond.fieldLinkNest "RainWheel$RoadReader" (102 : Nat) "RainWheel$Road" "strong" "[I" "RainWheel") ∈ lw_tbl := lw_at lw_m2 21 rfl
theorem q359 : (Jvm.Cond.fieldLinkNest "RainWheel$RoadReader" (143 : Nat) "RainWheel$Road" "minutes" "[I" "RainWheel") ∈ lw_tbl := lw_at lw_m2 24 rfl
theorem q363 : (Jvm.Cond.fieldLinkNest "RainWheel$RoadReader" (146 : Nat) "RainWheel$Road" "out" "[I" "RainWheel") ∈ lw_tbl := lw_at lw_m2 28 rfl
theorem q367 : (Jvm.Cond.fieldLinkNest "RainWheel$RoadReader" (149 : Nat) "RainWheel$Road" "hands" "[I" "RainWheel") ∈ lw_tbl := lw_at lw_m2 32 rfl
theorem q371 : (Jvm.Cond.fieldLinkNest "RainWheel$RoadReader" (152 : Nat) "RainWheel$Road" "strength" "[I" "RainWheel") ∈ lw_tbl := lw_at lw_m2 36 rfl
theorem q374 : (Jvm.Cond.fieldLinkNest "RainWheel$RoadReader" (123 : Nat) "RainWheel$Road" "needs" "[I" "RainWheel") ∈ lw_tbl := lw_at lw_m2 39 rfl
theorem q378 : (Jvm.Cond.fieldLinkNest "RainWheel$RoadReader" (155 : Nat) "RainWheel$Road" "from" "[I" "RainWheel") ∈ lw_tbl := lw_at lw_m2 43 rfl
theorem q380 : (Jvm.Cond.fieldLinkNest "RainWheel$RoadReader" (158 : Nat) "RainWheel$Road" "to" "[I" "RainWheel") ∈ lw_tbl := lw_at lw_m2 45 rfl
theorem q382 : (Jvm.Cond.fieldLinkNest "RainWheel$RoadReader" (125 : Nat) "RainWheel$Road" "bears" "[I" "RainWheel") ∈ lw_tbl := lw_at lw_m2 47 rfl
theorem q385 : (Jvm.Cond.fieldLinkNest "RainWheel$RoadReader" (115 : Nat) "RainWheel$Road" "broad" "[I" "RainWheel") ∈ lw_tbl := lw_at lw_m2 50 rfl
theorem q387 : (Jvm.Cond.fieldLinkNest "RainWheel$RoadReader" (118 : Nat) "RainWheel$Road" "rust" "[I" "RainWheel") ∈ lw_tbl := lw_at lw_m2 52 rfl
theorem q390 : (Jvm.Cond.fieldLinkNest "RainWheel$RoadReader" (161 : Nat) "RainWheel$Road" "likely" "[I" "RainWheel") ∈ lw_tbl := lw_at lw_m2 55 rfl
theorem q393 : (Jvm.Cond.fieldLinkNest "RainWheel$RoadReader" (164 : Nat) "RainWheel$Road" "shows" "[[I" "RainWheel") ∈ lw_tbl := lw_at lw_m2 58 rfl
theorem q395 : (Jvm.Cond.fieldLinkNest "RainWheel$RoadReader" (61 : Nat) "RainWheel$Road" "people" "I" "RainWheel") ∈ lw_tbl := lw_at lw_m2 60 rfl
theorem q401 : (Jvm.Cond.fieldLinkNest "RainWheel$RoadReader" (65 : Nat) "RainWheel$Road" "deeds" "I" "RainWheel") ∈ lw_tbl := lw_at lw_m2 66 rfl
theorem q406 : (Jvm.Cond.fieldLinkNest "RainWheel$RoadReader" (68 : Nat) "RainWheel$Road" "rains" "I" "RainWheel") ∈ lw_tbl := lw_at lw_m2 71 rfl
theorem q407 : (Jvm.Cond.fieldLinkNest "RainWheel$RoadReader" (71 : Nat) "RainWheel$Road" "boards" "I" "RainWheel") ∈ lw_tbl := lw_at lw_m2 72 rfl
theorem q410 : (Jvm.Cond.fieldLinkNest "RainWheel$RoadReader" (74 : Nat) "RainWheel$Road" "nuts" "I" "RainWheel") ∈ lw_tbl := lw_at lw_m2 75 rfl
theorem q412 : (Jvm.Cond.fieldLinkNest "RainWheel$RoadReader" (77 : Nat) "RainWheel$Road" "causes" "I" "RainWheel") ∈ lw_tbl := lw_at lw_m2 77 rfl
theorem q415 : (Jvm.Cond.fieldLinkNest "RainWheel$RoadReader" (128 : Nat) "RainWheel$Road" "load" "I" "RainWheel") ∈ lw_tbl := lw_at lw_m2 80 rfl
theorem q418 : (Jvm.Cond.fieldLinkNest "RainWheel$RoadReader" (130 : Nat) "RainWheel$Road" "stops" "I" "RainWheel") ∈ lw_tbl := lw_at lw_m2 83 rfl
theorem q421 : (Jvm.Cond.fieldLinkNest "RainWheel$RoadReader" (132 : Nat) "RainWheel$Road" "loses" "I" "RainWheel") ∈ lw_tbl := lw_at lw_m2 86 rfl
theorem q423 : (Jvm.Cond.fieldLinkNest "RainWheel$RoadReader" (134 : Nat) "RainWheel$Road" "soft" "I" "RainWheel") ∈ lw_tbl := lw_at lw_m2 88 rfl
theorem q426 : (Jvm.Cond.fieldLinkNest "RainWheel$RoadReader" (136 : Nat) "RainWheel$Road" "each" "I" "RainWheel") ∈ lw_tbl := lw_at lw_m2 91 rfl
theorem q785 : (Jvm.Cond.instantiable "RainWheel$RoadReader" (4 : Nat)) ∈ lw_all := lw_g (lw_at lw_m3 210 rfl) rfl
theorem q810 : (Jvm.Cond.instanceMethod ({ cls := "RainWheel$RoadReader", name := "<init>", desc := "(LRainWheel$Reader;)V" } : Jvm.MethodName)) ∈ lw_all := lw_g (lw_at lw_m3 235 rfl) rfl
theorem q811 : (Jvm.Cond.code ({ cls := "RainWheel$RoadReader", name := "<init>", desc := "(LRainWheel$Reader;)V" } : Jvm.MethodName) prog_11_method_1_code (2 : Nat) (Option.none : Option Jvm.ClassFile.FieldType)) ∈ lw_all := lw_g (lw_at lw_m3 236 rfl) rfl
theorem q812 : (Jvm.Cond.methodLink "RainWheel$RoadReader" (3 : Nat) ({ cls := "java/lang/Object", name := "<init>", desc := "()V" } : Jvm.MethodName)) ∈ lw_all := lw_g (lw_at lw_m3 237 rfl) rfl
theorem q813 : (Jvm.Cond.classLink "RainWheel$RoadReader" (9 : Nat) "java/lang/String") ∈ lw_all := lw_g (lw_at lw_m3 238 rfl) rfl
theorem q815 : (Jvm.Cond.stringRef "RainWheel$RoadReader" (11 : Nat) "person") ∈ lw_tbl := lw_at lw_m4 0 rfl
theorem q816 : (Jvm.Cond.stringRef "RainWheel$RoadReader" (13 : Nat) "deed") ∈ lw_tbl := lw_at lw_m4 1 rfl
theorem q817 : (Jvm.Cond.stringRef "RainWheel$RoadReader" (15 : Nat) "rain") ∈ lw_tbl := lw_at lw_m4 2 rfl
theorem q818 : (Jvm.Cond.stringRef "RainWheel$RoadReader" (17 : Nat) "board") ∈ lw_tbl := lw_at lw_m4 3 rfl
theorem q819 : (Jvm.Cond.stringRef "RainWheel$RoadReader" (19 : Nat) "nut") ∈ lw_tbl := lw_at lw_m4 4 rfl
theorem q820 : (Jvm.Cond.stringRef "RainWheel$RoadReader" (21 : Nat) "cause") ∈ lw_tbl := lw_at lw_m4 5 rfl
theorem q821 : (Jvm.Cond.stringRef "RainWheel$RoadReader" (23 : Nat) "needs") ∈ lw_tbl := lw_at lw_m4 6 rfl
theorem q822 : (Jvm.Cond.stringRef "RainWheel$RoadReader" (25 : Nat) "yard") ∈ lw_tbl := lw_at lw_m4 7 rfl
theorem q823 : (Jvm.Cond.stringRef "RainWheel$RoadReader" (27 : Nat) "load") ∈ lw_tbl := lw_at lw_m4 8 rfl
theorem q824 : (Jvm.Cond.stringRef "RainWheel$RoadReader" (29 : Nat) "stops") ∈ lw_tbl := lw_at lw_m4 9 rfl
theorem q825 : (Jvm.Cond.stringRef "RainWheel$RoadReader" (31 : Nat) "loses") ∈ lw_tbl := lw_at lw_m4 10 rfl
theorem q826 : (Jvm.Cond.stringRef "RainWheel$RoadReader" (33 : Nat) "soft") ∈ lw_tbl := lw_at lw_m4 11 rfl
theorem q827 : (Jvm.Cond.classLink "RainWheel$RoadReader" (41 : Nat) "RainWheel$Road") ∈ lw_all := lw_g (lw_at lw_m4 12 rfl) rfl
theorem q828 : (Jvm.Cond.methodLink "RainWheel$RoadReader" (43 : Nat) ({ cls := "RainWheel$Road", name := "<init>", desc := "()V" } : Jvm.MethodName)) ∈ lw_all := lw_g (lw_at lw_m4 13 rfl) rfl
theorem q829 : (Jvm.Cond.fieldLink "RainWheel$RoadReader" (35 : Nat) "RainWheel$RoadReader" "words" "[Ljava/lang/String;") ∈ lw_all := lw_g (lw_at lw_m4 14 rfl) rfl
theorem q830 : (Jvm.Cond.fieldLink "RainWheel$RoadReader" (48 : Nat) "RainWheel$RoadReader" "in" "LRainWheel$Reader;") ∈ lw_all := lw_g (lw_at lw_m4 15 rfl) rfl
theorem q831 : (Jvm.Cond.fieldLink "RainWheel$RoadReader" (44 : Nat) "RainWheel$RoadReader" "road" "LRainWheel$Road;") ∈ lw_all := lw_g (lw_at lw_m4 16 rfl) rfl
theorem q832 : (Jvm.Cond.fieldLink "RainWheel$RoadReader" (92 : Nat) "RainWheel$RoadReader" "clauses" "I") ∈ lw_all := lw_g (lw_at lw_m4 17 rfl) rfl
theorem q833 : (Jvm.Cond.laysFinal "RainWheel$RoadReader" "RainWheel$RoadReader" "words" "[Ljava/lang/String;") ∈ lw_all := lw_g (lw_at lw_m4 18 rfl) rfl
theorem q834 : (Jvm.Cond.soleField "RainWheel$RoadReader" "words") ∈ lw_all := lw_g (lw_at lw_m4 19 rfl) rfl
theorem q835 : (Jvm.Cond.laysFinal "RainWheel$RoadReader" "RainWheel$RoadReader" "in" "LRainWheel$Reader;") ∈ lw_all := lw_g (lw_at lw_m4 20 rfl) rfl
theorem q836 : (Jvm.Cond.soleField "RainWheel$RoadReader" "in") ∈ lw_all := lw_g (lw_at lw_m4 21 rfl) rfl
theorem q837 : (Jvm.Cond.laysFinal "RainWheel$RoadReader" "RainWheel$RoadReader" "road" "LRainWheel$Road;") ∈ lw_all := lw_g (lw_at lw_m4 22 rfl) rfl
theorem q838 : (Jvm.Cond.soleField "RainWheel$RoadReader" "road") ∈ lw_all := lw_g (lw_at lw_m4 23 rfl) rfl
theorem q839 : (Jvm.Cond.lays "RainWheel$RoadReader" "RainWheel$RoadReader" "clauses" "I") ∈ lw_all := lw_g (lw_at lw_m4 24 rfl) rfl
theorem q840 : (Jvm.Cond.soleField "RainWheel$RoadReader" "clauses") ∈ lw_all := lw_g (lw_at lw_m4 25 rfl) rfl
theorem q841 : (Jvm.Cond.superclass "RainWheel$RoadReader" "java/lang/Object") ∈ lw_all := lw_g (lw_at lw_m4 26 rfl) rfl
theorem q843 : (Jvm.Cond.instanceMethod ({ cls := "RainWheel$RoadReader", name := "reads", desc := "()LRainWheel$Road;" } : Jvm.MethodName)) ∈ lw_all := lw_g (lw_at lw_m4 28 rfl) rfl
theorem q844 : (Jvm.Cond.selects "RainWheel$RoadReader" ({ cls := "RainWheel$RoadReader", name := "reads", desc := "()LRainWheel$Road;" } : Jvm.MethodName) ({ cls := "RainWheel$RoadReader", name := "reads", desc := "()LRainWheel$Road;" } : Jvm.MethodName)) ∈ lw_all := lw_g (lw_at lw_m4 29 rfl) rfl
theorem q845 : (Jvm.Cond.code ({ cls := "RainWheel$RoadReader", name := "reads", desc := "()LRainWheel$Road;" } : Jvm.MethodName) prog_11_method_2_code (1 : Nat) (Option.some (Jvm.ClassFile.FieldType.object "RainWheel$Road"))) ∈ lw_all := lw_g (lw_at lw_m4 30 rfl) rfl
theorem q846 : (Jvm.Cond.methodLink "RainWheel$RoadReader" (52 : Nat) ({ cls := "RainWheel$Reader", name := "now", desc := "()I" } : Jvm.MethodName)) ∈ lw_all := lw_g (lw_at lw_m4 31 rfl) rfl
theorem q854 : (Jvm.Cond.methodLink "RainWheel$RoadReader" (58 : Nat) ({ cls := "RainWheel$RoadReader", name := "clause", desc := "()V" } : Jvm.MethodName)) ∈ lw_all := lw_g (lw_at lw_m4 39 rfl) rfl
theorem q855 : (Jvm.Cond.privateMethod ({ cls := "RainWheel$RoadReader", name := "clause", desc := "()V" } : Jvm.MethodName)) ∈ lw_tbl := lw_at lw_m4 40 rfl
theorem q856 : (Jvm.Cond.instanceMethod ({ cls := "RainWheel$RoadReader", name := "clause", desc := "()V" } : Jvm.MethodName)) ∈ lw_all := lw_g (lw_at lw_m4 41 rfl) rfl
theorem q857 : (Jvm.Cond.code ({ cls := "RainWheel$RoadReader", name := "clause", desc := "()V" } : Jvm.MethodName) prog_11_method_4_code (4 : Nat) (Option.none : Option Jvm.ClassFile.FieldType)) ∈ lw_all := lw_g (lw_at lw_m4 42 rfl) rfl
theorem q858 : (Jvm.Cond.methodLink "RainWheel$RoadReader" (80 : Nat) ({ cls := "RainWheel$Reader", name := "place", desc := "()I" } : Jvm.MethodName)) ∈ lw_all := lw_g (lw_at lw_m4 43 rfl) rfl
theorem q863 : (Jvm.Cond.methodLink "RainWheel$RoadReader" (83 : Nat) ({ cls := "RainWheel$Reader", name := "which", desc := "([Ljava/lang/String;)I" } : Jvm.MethodName)) ∈ lw_all := lw_g (lw_at lw_m4 48 rfl) rfl
theorem q923 : (Jvm.Cond.classLink "RainWheel$RoadReader" (87 : Nat) "RainWheel$Wrong") ∈ lw_all := lw_g (lw_at lw_m4 108 rfl) rfl
theorem q932 : (Jvm.Cond.methodLink "RainWheel$RoadReader" (89 : Nat) ({ cls := "RainWheel$Wrong", name := "<init>", desc := "(II)V" } : Jvm.MethodName)) ∈ lw_all := lw_g (lw_at lw_m4 117 rfl) rfl
theorem q951 : (Jvm.Cond.methodLink "RainWheel$RoadReader" (95 : Nat) ({ cls := "RainWheel$RoadReader", name := "isFull", desc := "(I)Z" } : Jvm.MethodName)) ∈ lw_all := lw_g (lw_at lw_m4 136 rfl) rfl
theorem q952 : (Jvm.Cond.privateMethod ({ cls := "RainWheel$RoadReader", name := "isFull", desc := "(I)Z" } : Jvm.MethodName)) ∈ lw_tbl := lw_at lw_m4 137 rfl
theorem q953 : (Jvm.Cond.instanceMethod ({ cls := "RainWheel$RoadReader", name := "isFull", desc := "(I)Z" } : Jvm.MethodName)) ∈ lw_all := lw_g (lw_at lw_m4 138 rfl) rfl
theorem q954 : (Jvm.Cond.code ({ cls := "RainWheel$RoadReader", name := "isFull", desc := "(I)Z" } : Jvm.MethodName) prog_11_method_3_code (2 : Nat) (Option.some Jvm.ClassFile.FieldType.boolean)) ∈ lw_all := lw_g (lw_at lw_m4 139 rfl) rfl
theorem q955 : (Jvm.Cond.methodLink "RainWheel$RoadReader" (99 : Nat) ({ cls := "RainWheel$Reader", name := "skipsWord", desc := "()V" } : Jvm.MethodName)) ∈ lw_all := lw_g (lw_at lw_m4 140 rfl) rfl
theorem q959 : (Jvm.Cond.methodLink "RainWheel$RoadReader" (106 : Nat) ({ cls := "RainWheel$Reader", name := "number", desc := "(II)I" } : Jvm.MethodName)) ∈ lw_all := lw_g (lw_at lw_m4 144 rfl) rfl
theorem q970 : (Jvm.Cond.methodLink "RainWheel$RoadReader" (110 : Nat) ({ cls := "RainWheel$RoadReader", name := "deed", desc := "(I)V" } : Jvm.MethodName)) ∈ lw_all := lw_g (lw_at lw_m4 155 rfl) rfl
theorem q971 : (Jvm.Cond.privateMethod ({ cls := "RainWheel$RoadReader", name := "deed", desc := "(I)V" } : Jvm.MethodName)) ∈ lw_tbl := lw_at lw_m4 156 rfl
theorem q972 : (Jvm.Cond.instanceMethod ({ cls := "RainWheel$RoadReader", name := "deed", desc := "(I)V" } : Jvm.MethodName)) ∈ lw_all := lw_g (lw_at lw_m4 157 rfl) rfl
theorem q973 : (Jvm.Cond.code ({ cls := "RainWheel$RoadReader", name := "deed", desc := "(I)V" } : Jvm.MethodName) prog_11_method_5_code (2 : Nat) (Option.none : Option Jvm.ClassFile.FieldType)) ∈ lw_all := lw_g (lw_at lw_m4 158 rfl) rfl
theorem q974 : (Jvm.Cond.methodLink "RainWheel$RoadReader" (113 : Nat) ({ cls := "RainWheel$RoadReader", name := "rain", desc := "(I)V" } : Jvm.MethodName)) ∈ lw_all := lw_g (lw_at lw_m4 159 rfl) rfl
theorem q975 : (Jvm.Cond.privateMethod ({ cls := "RainWheel$RoadReader", name := "rain", desc := "(I)V" } : Jvm.MethodName)) ∈ lw_tbl := lw_at lw_m4 160 rfl
theorem q976 : (Jvm.Cond.instanceMethod ({ cls := "RainWheel$RoadReader", name := "rain", desc := "(I)V" } : Jvm.MethodName)) ∈ lw_all := lw_g (lw_at lw_m4 161 rfl) rfl
theorem q977 : (Jvm.Cond.code ({ cls := "RainWheel$RoadReader", name := "rain", desc := "(I)V" } : Jvm.MethodName) prog_11_method_6_code (2 : Nat) (Option.none : Option Jvm.ClassFile.FieldType)) ∈ lw_all := lw_g (lw_at lw_m4 162 rfl) rfl
theorem q978 : (Jvm.Cond.methodLink "RainWheel$RoadReader" (121 : Nat) ({ cls := "RainWheel$RoadReader", name := "cause", desc := "(I)V" } : Jvm.MethodName)) ∈ lw_all := lw_g (lw_at lw_m4 163 rfl) rfl
theorem q979 : (Jvm.Cond.privateMethod ({ cls := "RainWheel$RoadReader", name := "cause", desc := "(I)V" } : Jvm.MethodName)) ∈ lw_tbl := lw_at lw_m4 164 rfl
theorem q980 : (Jvm.Cond.instanceMethod ({ cls := "RainWheel$RoadReader", name := "cause", desc := "(I)V" } : Jvm.MethodName)) ∈ lw_all := lw_g (lw_at lw_m4 165 rfl) rfl
theorem q981 : (Jvm.Cond.code ({ cls := "RainWheel$RoadReader", name := "cause", desc := "(I)V" } : Jvm.MethodName) prog_11_method_7_code (3 : Nat) (Option.none : Option Jvm.ClassFile.FieldType)) ∈ lw_all := lw_g (lw_at lw_m4 166 rfl) rfl
theorem q982 : (Jvm.Cond.methodLink "RainWheel$RoadReader" (139 : Nat) ({ cls := "RainWheel$Reader", name := "sign", desc := "(C)V" } : Jvm.MethodName)) ∈ lw_all := lw_g (lw_at lw_m4 167 rfl) rfl
theorem q2262 : (Jvm.Cond.castable "RainWheel$RoadReader" "java/lang/Object") ∈ lw_tbl := lw_at lw_m10 7 rfl

abbrev cX12_init : ByteArray := prog_8_method_1_code
def yX12_init : MethodName := ⟨RX12, "<init>", "([BI)V"⟩
def dkwX12_init_0 : List UInt8 := [42, 183, 0, 3, 42, 43, 181, 0, 9, 42, 28, 181, 0, 15, 177]
abbrev dktX12_init_0 : List UInt8 := dkwX12_init_0 ++ []
theorem dksX12_init_0 : cX12_init.data.toList.drop 0 = dktX12_init_0 := by decide +kernel
theorem dX12_init_0 : decode cX12_init 0 = .ok (.aload_n 0, 1) := dk_42 (dk_at dksX12_init_0 0 rfl rfl)
theorem dX12_init_1 : decode cX12_init 1 = .ok (.invokespecial 3, 3) := dk_183 0 3 (dk_at dksX12_init_0 1 rfl rfl)
theorem dX12_init_4 : decode cX12_init 4 = .ok (.aload_n 0, 1) := dk_42 (dk_at dksX12_init_0 4 rfl rfl)
theorem dX12_init_5 : decode cX12_init 5 = .ok (.aload_n 1, 1) := dk_43 (dk_at dksX12_init_0 5 rfl rfl)
theorem dX12_init_6 : decode cX12_init 6 = .ok (.putfield 9, 3) := dk_181 0 9 (dk_at dksX12_init_0 6 rfl rfl)
theorem dX12_init_9 : decode cX12_init 9 = .ok (.aload_n 0, 1) := dk_42 (dk_at dksX12_init_0 9 rfl rfl)
theorem dX12_init_10 : decode cX12_init 10 = .ok (.iload_n 2, 1) := dk_28 (dk_at dksX12_init_0 10 rfl rfl)
theorem dX12_init_11 : decode cX12_init 11 = .ok (.putfield 15, 3) := dk_181 0 15 (dk_at dksX12_init_0 11 rfl rfl)
theorem dX12_init_14 : decode cX12_init 14 = .ok (.return_, 1) := dk_177 (dk_at dksX12_init_0 14 rfl rfl)
abbrev cX12_now : ByteArray := prog_8_method_3_code
def yX12_now : MethodName := ⟨RX12, "now", "()I"⟩
def dkwX12_now_1 : List UInt8 := [167, 255, 233, 42, 42, 180, 0, 19, 182, 0, 22, 172]
abbrev dktX12_now_1 : List UInt8 := dkwX12_now_1 ++ []
def dkwX12_now_0 : List UInt8 := [42, 42, 180, 0, 19, 182, 0, 22, 16, 32, 160, 0, 16, 42, 89, 180, 0, 19, 4, 96, 181, 0, 19]
abbrev dktX12_now_0 : List UInt8 := dkwX12_now_0 ++ dktX12_now_1
theorem dksX12_now_0 : cX12_now.data.toList.drop 0 = dktX12_now_0 := by decide +kernel
theorem dksX12_now_1 : cX12_now.data.toList.drop 23 = dktX12_now_1 := dk_seg dksX12_now_0 23 rfl rfl
theorem dX12_now_0 : decode cX12_now 0 = .ok (.aload_n 0, 1) := dk_42 (dk_at dksX12_now_0 0 rfl rfl)
theorem dX12_now_1 : decode cX12_now 1 = .ok (.aload_n 0, 1) := dk_42 (dk_at dksX12_now_0 1 rfl rfl)
theorem dX12_now_2 : decode cX12_now 2 = .ok (.getfield 19, 3) := dk_180 0 19 (dk_at dksX12_now_0 2 rfl rfl)
theorem dX12_now_5 : decode cX12_now 5 = .ok (.invokevirtual 22, 3) := dk_182 0 22 (dk_at dksX12_now_0 5 rfl rfl)
theorem dX12_now_8 : decode cX12_now 8 = .ok (.bipush 32, 2) := dk_16 32 (dk_at dksX12_now_0 8 rfl rfl)
theorem dX12_now_10 : decode cX12_now 10 = .ok (.if_icmp .ne 16, 3) := dk_160 0 16 (dk_at dksX12_now_0 10 rfl rfl)
theorem dX12_now_13 : decode cX12_now 13 = .ok (.aload_n 0, 1) := dk_42 (dk_at dksX12_now_0 13 rfl rfl)
theorem dX12_now_14 : decode cX12_now 14 = .ok (.dup, 1) := dk_89 (dk_at dksX12_now_0 14 rfl rfl)
theorem dX12_now_15 : decode cX12_now 15 = .ok (.getfield 19, 3) := dk_180 0 19 (dk_at dksX12_now_0 15 rfl rfl)
theorem dX12_now_18 : decode cX12_now 18 = .ok (.iconst 1, 1) := dk_4 (dk_at dksX12_now_0 18 rfl rfl)
theorem dX12_now_19 : decode cX12_now 19 = .ok (.iadd, 1) := dk_96 (dk_at dksX12_now_0 19 rfl rfl)
theorem dX12_now_20 : decode cX12_now 20 = .ok (.putfield 19, 3) := dk_181 0 19 (dk_at dksX12_now_0 20 rfl rfl)
theorem dX12_now_23 : decode cX12_now 23 = .ok (.goto (-23), 3) := dk_167 255 233 (dk_at dksX12_now_1 0 rfl rfl)
theorem dX12_now_26 : decode cX12_now 26 = .ok (.aload_n 0, 1) := dk_42 (dk_at dksX12_now_1 3 rfl rfl)
theorem dX12_now_27 : decode cX12_now 27 = .ok (.aload_n 0, 1) := dk_42 (dk_at dksX12_now_1 4 rfl rfl)
theorem dX12_now_28 : decode cX12_now 28 = .ok (.getfield 19, 3) := dk_180 0 19 (dk_at dksX12_now_1 5 rfl rfl)
theorem dX12_now_31 : decode cX12_now 31 = .ok (.invokevirtual 22, 3) := dk_182 0 22 (dk_at dksX12_now_1 8 rfl rfl)
theorem dX12_now_34 : decode cX12_now 34 = .ok (.ireturn, 1) := dk_172 (dk_at dksX12_now_1 11 rfl rfl)
abbrev cX12_byteAt : ByteArray := prog_8_method_2_code
def yX12_byteAt : MethodName := ⟨RX12, "byteAt", "(I)I"⟩
def dkwX12_byteAt_0 : List UInt8 := [27, 42, 180, 0, 15, 162, 0, 16, 42, 180, 0, 9, 27, 51, 17, 0, 255, 126, 167, 0, 4, 2, 172]
abbrev dktX12_byteAt_0 : List UInt8 := dkwX12_byteAt_0 ++ []
theorem dksX12_byteAt_0 : cX12_byteAt.data.toList.drop 0 = dktX12_byteAt_0 := by decide +kernel
theorem dX12_byteAt_0 : decode cX12_byteAt 0 = .ok (.iload_n 1, 1) := dk_27 (dk_at dksX12_byteAt_0 0 rfl rfl)
theorem dX12_byteAt_1 : decode cX12_byteAt 1 = .ok (.aload_n 0, 1) := dk_42 (dk_at dksX12_byteAt_0 1 rfl rfl)
theorem dX12_byteAt_2 : decode cX12_byteAt 2 = .ok (.getfield 15, 3) := dk_180 0 15 (dk_at dksX12_byteAt_0 2 rfl rfl)
theorem dX12_byteAt_5 : decode cX12_byteAt 5 = .ok (.if_icmp .ge 16, 3) := dk_162 0 16 (dk_at dksX12_byteAt_0 5 rfl rfl)
theorem dX12_byteAt_8 : decode cX12_byteAt 8 = .ok (.aload_n 0, 1) := dk_42 (dk_at dksX12_byteAt_0 8 rfl rfl)
theorem dX12_byteAt_9 : decode cX12_byteAt 9 = .ok (.getfield 9, 3) := dk_180 0 9 (dk_at dksX12_byteAt_0 9 rfl rfl)
theorem dX12_byteAt_12 : decode cX12_byteAt 12 = .ok (.iload_n 1, 1) := dk_27 (dk_at dksX12_byteAt_0 12 rfl rfl)
theorem dX12_byteAt_13 : decode cX12_byteAt 13 = .ok (.baload, 1) := dk_51 (dk_at dksX12_byteAt_0 13 rfl rfl)
theorem dX12_byteAt_14 : decode cX12_byteAt 14 = .ok (.sipush 255, 3) := dk_17 0 255 (dk_at dksX12_byteAt_0 14 rfl rfl)
theorem dX12_byteAt_17 : decode cX12_byteAt 17 = .ok (.iand, 1) := dk_126 (dk_at dksX12_byteAt_0 17 rfl rfl)
theorem dX12_byteAt_18 : decode cX12_byteAt 18 = .ok (.goto 4, 3) := dk_167 0 4 (dk_at dksX12_byteAt_0 18 rfl rfl)
theorem dX12_byteAt_21 : decode cX12_byteAt 21 = .ok (.iconst (-1), 1) := dk_2 (dk_at dksX12_byteAt_0 21 rfl rfl)
theorem dX12_byteAt_22 : decode cX12_byteAt 22 = .ok (.ireturn, 1) := dk_172 (dk_at dksX12_byteAt_0 22 rfl rfl)
abbrev cX12_place : ByteArray := prog_8_method_4_code
def yX12_place : MethodName := ⟨RX12, "place", "()I"⟩
def dkwX12_place_0 : List UInt8 := [42, 182, 0, 26, 87, 42, 180, 0, 19, 172]
abbrev dktX12_place_0 : List UInt8 := dkwX12_place_0 ++ []
theorem dksX12_place_0 : cX12_place.data.toList.drop 0 = dktX12_place_0 := by decide +kernel
theorem dX12_place_0 : decode cX12_place 0 = .ok (.aload_n 0, 1) := dk_42 (dk_at dksX12_place_0 0 rfl rfl)
theorem dX12_place_1 : decode cX12_place 1 = .ok (.invokevirtual 26, 3) := dk_182 0 26 (dk_at dksX12_place_0 1 rfl rfl)
theorem dX12_place_4 : decode cX12_place 4 = .ok (.pop, 1) := dk_87 (dk_at dksX12_place_0 4 rfl rfl)
theorem dX12_place_5 : decode cX12_place 5 = .ok (.aload_n 0, 1) := dk_42 (dk_at dksX12_place_0 5 rfl rfl)
theorem dX12_place_6 : decode cX12_place 6 = .ok (.getfield 19, 3) := dk_180 0 19 (dk_at dksX12_place_0 6 rfl rfl)
theorem dX12_place_9 : decode cX12_place 9 = .ok (.ireturn, 1) := dk_172 (dk_at dksX12_place_0 9 rfl rfl)
abbrev cX12_which : ByteArray := prog_8_method_8_code
def yX12_which : MethodName := ⟨RX12, "which", "([Ljava/lang/String;)I"⟩
def dkwX12_which_1 : List UInt8 := [167, 255, 235, 2, 172]
abbrev dktX12_which_1 : List UInt8 := dkwX12_which_1 ++ []
def dkwX12_which_0 : List UInt8 := [3, 61, 28, 43, 190, 162, 0, 21, 42, 43, 28, 50, 182, 0, 46, 153, 0, 5, 28, 172, 132, 2, 1]
abbrev dktX12_which_0 : List UInt8 := dkwX12_which_0 ++ dktX12_which_1
theorem dksX12_which_0 : cX12_which.data.toList.drop 0 = dktX12_which_0 := by decide +kernel
theorem dksX12_which_1 : cX12_which.data.toList.drop 23 = dktX12_which_1 := dk_seg dksX12_which_0 23 rfl rfl
theorem dX12_which_0 : decode cX12_which 0 = .ok (.iconst 0, 1) := dk_3 (dk_at dksX12_which_0 0 rfl rfl)
theorem dX12_which_1 : decode cX12_which 1 = .ok (.istore_n 2, 1) := dk_61 (dk_at dksX12_which_0 1 rfl rfl)
theorem dX12_which_2 : decode cX12_which 2 = .ok (.iload_n 2, 1) := dk_28 (dk_at dksX12_which_0 2 rfl rfl)
theorem dX12_which_3 : decode cX12_which 3 = .ok (.aload_n 1, 1) := dk_43 (dk_at dksX12_which_0 3 rfl rfl)
theorem dX12_which_4 : decode cX12_which 4 = .ok (.arraylength, 1) := dk_190 (dk_at dksX12_which_0 4 rfl rfl)
theorem dX12_which_5 : decode cX12_which 5 = .ok (.if_icmp .ge 21, 3) := dk_162 0 21 (dk_at dksX12_which_0 5 rfl rfl)
theorem dX12_which_8 : decode cX12_which 8 = .ok (.aload_n 0, 1) := dk_42 (dk_at dksX12_which_0 8 rfl rfl)
theorem dX12_which_9 : decode cX12_which 9 = .ok (.aload_n 1, 1) := dk_43 (dk_at dksX12_which_0 9 rfl rfl)
theorem dX12_which_10 : decode cX12_which 10 = .ok (.iload_n 2, 1) := dk_28 (dk_at dksX12_which_0 10 rfl rfl)
theorem dX12_which_11 : decode cX12_which 11 = .ok (.aaload, 1) := dk_50 (dk_at dksX12_which_0 11 rfl rfl)
theorem dX12_which_12 : decode cX12_which 12 = .ok (.invokevirtual 46, 3) := dk_182 0 46 (dk_at dksX12_which_0 12 rfl rfl)
theorem dX12_which_15 : decode cX12_which 15 = .ok (.ifCond .eq 5, 3) := dk_153 0 5 (dk_at dksX12_which_0 15 rfl rfl)
theorem dX12_which_18 : decode cX12_which 18 = .ok (.iload_n 2, 1) := dk_28 (dk_at dksX12_which_0 18 rfl rfl)
theorem dX12_which_19 : decode cX12_which 19 = .ok (.ireturn, 1) := dk_172 (dk_at dksX12_which_0 19 rfl rfl)
theorem dX12_which_20 : decode cX12_which 20 = .ok (.iinc 2 1, 3) := dk_132 2 1 (dk_at dksX12_which_0 20 rfl rfl)
theorem dX12_which_23 : decode cX12_which 23 = .ok (.goto (-21), 3) := dk_167 255 235 (dk_at dksX12_which_1 0 rfl rfl)
theorem dX12_which_26 : decode cX12_which 26 = .ok (.iconst (-1), 1) := dk_2 (dk_at dksX12_which_1 3 rfl rfl)
theorem dX12_which_27 : decode cX12_which 27 = .ok (.ireturn, 1) := dk_172 (dk_at dksX12_which_1 4 rfl rfl)
abbrev cX12_isWord : ByteArray := prog_8_method_7_code
def yX12_isWord : MethodName := ⟨RX12, "isWord", "(Ljava/lang/String;)Z"⟩
def dkwX12_isWord_3 : List UInt8 := [172]
abbrev dktX12_isWord_3 : List UInt8 := dkwX12_isWord_3 ++ []
def dkwX12_isWord_2 : List UInt8 := [21, 4, 96, 182, 0, 22, 43, 21, 4, 182, 0, 42, 159, 0, 5, 3, 172, 132, 4, 1, 167, 255, 228, 4]
abbrev dktX12_isWord_2 : List UInt8 := dkwX12_isWord_2 ++ dktX12_isWord_3
def dkwX12_isWord_1 : List UInt8 := [167, 255, 240, 29, 43, 182, 0, 37, 159, 0, 5, 3, 172, 3, 54, 4, 21, 4, 29, 162, 0, 28, 42, 28]
abbrev dktX12_isWord_1 : List UInt8 := dkwX12_isWord_1 ++ dktX12_isWord_2
def dkwX12_isWord_0 : List UInt8 := [42, 182, 0, 30, 61, 3, 62, 42, 28, 29, 96, 182, 0, 22, 184, 0, 33, 153, 0, 9, 132, 3, 1]
abbrev dktX12_isWord_0 : List UInt8 := dkwX12_isWord_0 ++ dktX12_isWord_1
theorem dksX12_isWord_0 : cX12_isWord.data.toList.drop 0 = dktX12_isWord_0 := by decide +kernel
theorem dksX12_isWord_1 : cX12_isWord.data.toList.drop 23 = dktX12_isWord_1 := dk_seg dksX12_isWord_0 23 rfl rfl
theorem dksX12_isWord_2 : cX12_isWord.data.toList.drop 47 = dktX12_isWord_2 := dk_seg dksX12_isWord_1 24 rfl rfl
theorem dksX12_isWord_3 : cX12_isWord.data.toList.drop 71 = dktX12_isWord_3 := dk_seg dksX12_isWord_2 24 rfl rfl
theorem dX12_isWord_0 : decode cX12_isWord 0 = .ok (.aload_n 0, 1) := dk_42 (dk_at dksX12_isWord_0 0 rfl rfl)
theorem dX12_isWord_1 : decode cX12_isWord 1 = .ok (.invokevirtual 30, 3) := dk_182 0 30 (dk_at dksX12_isWord_0 1 rfl rfl)
theorem dX12_isWord_4 : decode cX12_isWord 4 = .ok (.istore_n 2, 1) := dk_61 (dk_at dksX12_isWord_0 4 rfl rfl)
theorem dX12_isWord_5 : decode cX12_isWord 5 = .ok (.iconst 0, 1) := dk_3 (dk_at dksX12_isWord_0 5 rfl rfl)
theorem dX12_isWord_6 : decode cX12_isWord 6 = .ok (.istore_n 3, 1) := dk_62 (dk_at dksX12_isWord_0 6 rfl rfl)
theorem dX12_isWord_7 : decode cX12_isWord 7 = .ok (.aload_n 0, 1) := dk_42 (dk_at dksX12_isWord_0 7 rfl rfl)
theorem dX12_isWord_8 : decode cX12_isWord 8 = .ok (.iload_n 2, 1) := dk_28 (dk_at dksX12_isWord_0 8 rfl rfl)
theorem dX12_isWord_9 : decode cX12_isWord 9 = .ok (.iload_n 3, 1) := dk_29 (dk_at dksX12_isWord_0 9 rfl rfl)
theorem dX12_isWord_10 : decode cX12_isWord 10 = .ok (.iadd, 1) := dk_96 (dk_at dksX12_isWord_0 10 rfl rfl)
theorem dX12_isWord_11 : decode cX12_isWord 11 = .ok (.invokevirtual 22, 3) := dk_182 0 22 (dk_at dksX12_isWord_0 11 rfl rfl)
theorem dX12_isWord_14 : decode cX12_isWord 14 = .ok (.invokestatic 33, 3) := dk_184 0 33 (dk_at dksX12_isWord_0 14 rfl rfl)
theorem dX12_isWord_17 : decode cX12_isWord 17 = .ok (.ifCond .eq 9, 3) := dk_153 0 9 (dk_at dksX12_isWord_0 17 rfl rfl)
theorem dX12_isWord_20 : decode cX12_isWord 20 = .ok (.iinc 3 1, 3) := dk_132 3 1 (dk_at dksX12_isWord_0 20 rfl rfl)
theorem dX12_isWord_23 : decode cX12_isWord 23 = .ok (.goto (-16), 3) := dk_167 255 240 (dk_at dksX12_isWord_1 0 rfl rfl)
theorem dX12_isWord_26 : decode cX12_isWord 26 = .ok (.iload_n 3, 1) := dk_29 (dk_at dksX12_isWord_1 3 rfl rfl)
theorem dX12_isWord_27 : decode cX12_isWord 27 = .ok (.aload_n 1, 1) := dk_43 (dk_at dksX12_isWord_1 4 rfl rfl)
theorem dX12_isWord_28 : decode cX12_isWord 28 = .ok (.invokevirtual 37, 3) := dk_182 0 37 (dk_at dksX12_isWord_1 5 rfl rfl)
theorem dX12_isWord_31 : decode cX12_isWord 31 = .ok (.if_icmp .eq 5, 3) := dk_159 0 5 (dk_at dksX12_isWord_1 8 rfl rfl)
theorem dX12_isWord_34 : decode cX12_isWord 34 = .ok (.iconst 0, 1) := dk_3 (dk_at dksX12_isWord_1 11 rfl rfl)
theorem dX12_isWord_35 : decode cX12_isWord 35 = .ok (.ireturn, 1) := dk_172 (dk_at dksX12_isWord_1 12 rfl rfl)
theorem dX12_isWord_36 : decode cX12_isWord 36 = .ok (.iconst 0, 1) := dk_3 (dk_at dksX12_isWord_1 13 rfl rfl)
theorem dX12_isWord_37 : decode cX12_isWord 37 = .ok (.istore 4, 2) := dk_54 4 (dk_at dksX12_isWord_1 14 rfl rfl)
theorem dX12_isWord_39 : decode cX12_isWord 39 = .ok (.iload 4, 2) := dk_21 4 (dk_at dksX12_isWord_1 16 rfl rfl)
theorem dX12_isWord_41 : decode cX12_isWord 41 = .ok (.iload_n 3, 1) := dk_29 (dk_at dksX12_isWord_1 18 rfl rfl)
theorem dX12_isWord_42 : decode cX12_isWord 42 = .ok (.if_icmp .ge 28, 3) := dk_162 0 28 (dk_at dksX12_isWord_1 19 rfl rfl)
theorem dX12_isWord_45 : decode cX12_isWord 45 = .ok (.aload_n 0, 1) := dk_42 (dk_at dksX12_isWord_1 22 rfl rfl)
theorem dX12_isWord_46 : decode cX12_isWord 46 = .ok (.iload_n 2, 1) := dk_28 (dk_at dksX12_isWord_1 23 rfl rfl)
theorem dX12_isWord_47 : decode cX12_isWord 47 = .ok (.iload 4, 2) := dk_21 4 (dk_at dksX12_isWord_2 0 rfl rfl)
theorem dX12_isWord_49 : decode cX12_isWord 49 = .ok (.iadd, 1) := dk_96 (dk_at dksX12_isWord_2 2 rfl rfl)
theorem dX12_isWord_50 : decode cX12_isWord 50 = .ok (.invokevirtual 22, 3) := dk_182 0 22 (dk_at dksX12_isWord_2 3 rfl rfl)
theorem dX12_isWord_53 : decode cX12_isWord 53 = .ok (.aload_n 1, 1) := dk_43 (dk_at dksX12_isWord_2 6 rfl rfl)
theorem dX12_isWord_54 : decode cX12_isWord 54 = .ok (.iload 4, 2) := dk_21 4 (dk_at dksX12_isWord_2 7 rfl rfl)
theorem dX12_isWord_56 : decode cX12_isWord 56 = .ok (.invokevirtual 42, 3) := dk_182 0 42 (dk_at dksX12_isWord_2 9 rfl rfl)
theorem dX12_isWord_59 : decode cX12_isWord 59 = .ok (.if_icmp .eq 5, 3) := dk_159 0 5 (dk_at dksX12_isWord_2 12 rfl rfl)
theorem dX12_isWord_62 : decode cX12_isWord 62 = .ok (.iconst 0, 1) := dk_3 (dk_at dksX12_isWord_2 15 rfl rfl)
theorem dX12_isWord_63 : decode cX12_isWord 63 = .ok (.ireturn, 1) := dk_172 (dk_at dksX12_isWord_2 16 rfl rfl)
theorem dX12_isWord_64 : decode cX12_isWord 64 = .ok (.iinc 4 1, 3) := dk_132 4 1 (dk_at dksX12_isWord_2 17 rfl rfl)
theorem dX12_isWord_67 : decode cX12_isWord 67 = .ok (.goto (-28), 3) := dk_167 255 228 (dk_at dksX12_isWord_2 20 rfl rfl)
theorem dX12_isWord_70 : decode cX12_isWord 70 = .ok (.iconst 1, 1) := dk_4 (dk_at dksX12_isWord_2 23 rfl rfl)
theorem dX12_isWord_71 : decode cX12_isWord 71 = .ok (.ireturn, 1) := dk_172 (dk_at dksX12_isWord_3 0 rfl rfl)
abbrev cX12_isSmall : ByteArray := prog_8_method_5_code
def yX12_isSmall : MethodName := ⟨RX12, "isSmall", "(I)Z"⟩
def dkwX12_isSmall_0 : List UInt8 := [26, 16, 97, 161, 0, 13, 26, 16, 122, 163, 0, 7, 4, 167, 0, 4, 3, 172]
abbrev dktX12_isSmall_0 : List UInt8 := dkwX12_isSmall_0 ++ []
theorem dksX12_isSmall_0 : cX12_isSmall.data.toList.drop 0 = dktX12_isSmall_0 := by decide +kernel
theorem dX12_isSmall_0 : decode cX12_isSmall 0 = .ok (.iload_n 0, 1) := dk_26 (dk_at dksX12_isSmall_0 0 rfl rfl)
theorem dX12_isSmall_1 : decode cX12_isSmall 1 = .ok (.bipush 97, 2) := dk_16 97 (dk_at dksX12_isSmall_0 1 rfl rfl)
theorem dX12_isSmall_3 : decode cX12_isSmall 3 = .ok (.if_icmp .lt 13, 3) := dk_161 0 13 (dk_at dksX12_isSmall_0 3 rfl rfl)
theorem dX12_isSmall_6 : decode cX12_isSmall 6 = .ok (.iload_n 0, 1) := dk_26 (dk_at dksX12_isSmall_0 6 rfl rfl)
theorem dX12_isSmall_7 : decode cX12_isSmall 7 = .ok (.bipush 122, 2) := dk_16 122 (dk_at dksX12_isSmall_0 7 rfl rfl)
theorem dX12_isSmall_9 : decode cX12_isSmall 9 = .ok (.if_icmp .gt 7, 3) := dk_163 0 7 (dk_at dksX12_isSmall_0 9 rfl rfl)
theorem dX12_isSmall_12 : decode cX12_isSmall 12 = .ok (.iconst 1, 1) := dk_4 (dk_at dksX12_isSmall_0 12 rfl rfl)
theorem dX12_isSmall_13 : decode cX12_isSmall 13 = .ok (.goto 4, 3) := dk_167 0 4 (dk_at dksX12_isSmall_0 13 rfl rfl)
theorem dX12_isSmall_16 : decode cX12_isSmall 16 = .ok (.iconst 0, 1) := dk_3 (dk_at dksX12_isSmall_0 16 rfl rfl)
theorem dX12_isSmall_17 : decode cX12_isSmall 17 = .ok (.ireturn, 1) := dk_172 (dk_at dksX12_isSmall_0 17 rfl rfl)
abbrev cX12_skipsWord : ByteArray := prog_8_method_9_code
def yX12_skipsWord : MethodName := ⟨RX12, "skipsWord", "()V"⟩
def dkwX12_skipsWord_1 : List UInt8 := [167, 255, 232, 177]
abbrev dktX12_skipsWord_1 : List UInt8 := dkwX12_skipsWord_1 ++ []
def dkwX12_skipsWord_0 : List UInt8 := [42, 42, 180, 0, 19, 182, 0, 22, 184, 0, 33, 153, 0, 16, 42, 89, 180, 0, 19, 4, 96, 181, 0, 19]
abbrev dktX12_skipsWord_0 : List UInt8 := dkwX12_skipsWord_0 ++ dktX12_skipsWord_1
theorem dksX12_skipsWord_0 : cX12_skipsWord.data.toList.drop 0 = dktX12_skipsWord_0 := by decide +kernel
theorem dksX12_skipsWord_1 : cX12_skipsWord.data.toList.drop 24 = dktX12_skipsWord_1 := dk_seg dksX12_skipsWord_0 24 rfl rfl
theorem dX12_skipsWord_0 : decode cX12_skipsWord 0 = .ok (.aload_n 0, 1) := dk_42 (dk_at dksX12_skipsWord_0 0 rfl rfl)
theorem dX12_skipsWord_1 : decode cX12_skipsWord 1 = .ok (.aload_n 0, 1) := dk_42 (dk_at dksX12_skipsWord_0 1 rfl rfl)
theorem dX12_skipsWord_2 : decode cX12_skipsWord 2 = .ok (.getfield 19, 3) := dk_180 0 19 (dk_at dksX12_skipsWord_0 2 rfl rfl)
theorem dX12_skipsWord_5 : decode cX12_skipsWord 5 = .ok (.invokevirtual 22, 3) := dk_182 0 22 (dk_at dksX12_skipsWord_0 5 rfl rfl)
theorem dX12_skipsWord_8 : decode cX12_skipsWord 8 = .ok (.invokestatic 33, 3) := dk_184 0 33 (dk_at dksX12_skipsWord_0 8 rfl rfl)
theorem dX12_skipsWord_11 : decode cX12_skipsWord 11 = .ok (.ifCond .eq 16, 3) := dk_153 0 16 (dk_at dksX12_skipsWord_0 11 rfl rfl)
theorem dX12_skipsWord_14 : decode cX12_skipsWord 14 = .ok (.aload_n 0, 1) := dk_42 (dk_at dksX12_skipsWord_0 14 rfl rfl)
theorem dX12_skipsWord_15 : decode cX12_skipsWord 15 = .ok (.dup, 1) := dk_89 (dk_at dksX12_skipsWord_0 15 rfl rfl)
theorem dX12_skipsWord_16 : decode cX12_skipsWord 16 = .ok (.getfield 19, 3) := dk_180 0 19 (dk_at dksX12_skipsWord_0 16 rfl rfl)
theorem dX12_skipsWord_19 : decode cX12_skipsWord 19 = .ok (.iconst 1, 1) := dk_4 (dk_at dksX12_skipsWord_0 19 rfl rfl)
theorem dX12_skipsWord_20 : decode cX12_skipsWord 20 = .ok (.iadd, 1) := dk_96 (dk_at dksX12_skipsWord_0 20 rfl rfl)
theorem dX12_skipsWord_21 : decode cX12_skipsWord 21 = .ok (.putfield 19, 3) := dk_181 0 19 (dk_at dksX12_skipsWord_0 21 rfl rfl)
theorem dX12_skipsWord_24 : decode cX12_skipsWord 24 = .ok (.goto (-24), 3) := dk_167 255 232 (dk_at dksX12_skipsWord_1 0 rfl rfl)
theorem dX12_skipsWord_27 : decode cX12_skipsWord 27 = .ok (.return_, 1) := dk_177 (dk_at dksX12_skipsWord_1 3 rfl rfl)
abbrev cX12_number : ByteArray := prog_8_method_10_code
def yX12_number : MethodName := ⟨RX12, "number", "(II)I"⟩
def dkwX12_number_4 : List UInt8 := [21, 4, 28, 164, 0, 13, 187, 0, 53, 89, 5, 29, 183, 0, 55, 191, 21, 4, 172]
abbrev dktX12_number_4 : List UInt8 := dkwX12_number_4 ++ []
def dkwX12_number_3 : List UInt8 := [184, 0, 59, 54, 4, 42, 89, 180, 0, 19, 4, 96, 181, 0, 19, 167, 255, 208, 21, 4, 27, 161, 0, 9]
abbrev dktX12_number_3 : List UInt8 := dkwX12_number_3 ++ dktX12_number_4
def dkwX12_number_2 : List UInt8 := [153, 0, 40, 16, 10, 21, 4, 104, 42, 42, 180, 0, 19, 182, 0, 22, 96, 16, 48, 100, 18, 58]
abbrev dktX12_number_2 : List UInt8 := dkwX12_number_2 ++ dktX12_number_3
def dkwX12_number_1 : List UInt8 := [187, 0, 53, 89, 4, 42, 180, 0, 19, 183, 0, 55, 191, 42, 42, 180, 0, 19, 182, 0, 22, 184, 0, 50]
abbrev dktX12_number_1 : List UInt8 := dkwX12_number_1 ++ dktX12_number_2
def dkwX12_number_0 : List UInt8 := [42, 182, 0, 30, 62, 3, 54, 4, 42, 42, 180, 0, 19, 182, 0, 22, 184, 0, 50, 154, 0, 16]
abbrev dktX12_number_0 : List UInt8 := dkwX12_number_0 ++ dktX12_number_1
theorem dksX12_number_0 : cX12_number.data.toList.drop 0 = dktX12_number_0 := by decide +kernel
theorem dksX12_number_1 : cX12_number.data.toList.drop 22 = dktX12_number_1 := dk_seg dksX12_number_0 22 rfl rfl
theorem dksX12_number_2 : cX12_number.data.toList.drop 46 = dktX12_number_2 := dk_seg dksX12_number_1 24 rfl rfl
theorem dksX12_number_3 : cX12_number.data.toList.drop 68 = dktX12_number_3 := dk_seg dksX12_number_2 22 rfl rfl
theorem dksX12_number_4 : cX12_number.data.toList.drop 92 = dktX12_number_4 := dk_seg dksX12_number_3 24 rfl rfl
theorem dX12_number_0 : decode cX12_number 0 = .ok (.aload_n 0, 1) := dk_42 (dk_at dksX12_number_0 0 rfl rfl)
theorem dX12_number_1 : decode cX12_number 1 = .ok (.invokevirtual 30, 3) := dk_182 0 30 (dk_at dksX12_number_0 1 rfl rfl)
theorem dX12_number_4 : decode cX12_number 4 = .ok (.istore_n 3, 1) := dk_62 (dk_at dksX12_number_0 4 rfl rfl)
theorem dX12_number_5 : decode cX12_number 5 = .ok (.iconst 0, 1) := dk_3 (dk_at dksX12_number_0 5 rfl rfl)
theorem dX12_number_6 : decode cX12_number 6 = .ok (.istore 4, 2) := dk_54 4 (dk_at dksX12_number_0 6 rfl rfl)
theorem dX12_number_8 : decode cX12_number 8 = .ok (.aload_n 0, 1) := dk_42 (dk_at dksX12_number_0 8 rfl rfl)
theorem dX12_number_9 : decode cX12_number 9 = .ok (.aload_n 0, 1) := dk_42 (dk_at dksX12_number_0 9 rfl rfl)
theorem dX12_number_10 : decode cX12_number 10 = .ok (.getfield 19, 3) := dk_180 0 19 (dk_at dksX12_number_0 10 rfl rfl)
theorem dX12_number_13 : decode cX12_number 13 = .ok (.invokevirtual 22, 3) := dk_182 0 22 (dk_at dksX12_number_0 13 rfl rfl)
theorem dX12_number_16 : decode cX12_number 16 = .ok (.invokestatic 50, 3) := dk_184 0 50 (dk_at dksX12_number_0 16 rfl rfl)
theorem dX12_number_19 : decode cX12_number 19 = .ok (.ifCond .ne 16, 3) := dk_154 0 16 (dk_at dksX12_number_0 19 rfl rfl)
theorem dX12_number_22 : decode cX12_number 22 = .ok (.new 53, 3) := dk_187 0 53 (dk_at dksX12_number_1 0 rfl rfl)
theorem dX12_number_25 : decode cX12_number 25 = .ok (.dup, 1) := dk_89 (dk_at dksX12_number_1 3 rfl rfl)
theorem dX12_number_26 : decode cX12_number 26 = .ok (.iconst 1, 1) := dk_4 (dk_at dksX12_number_1 4 rfl rfl)
theorem dX12_number_27 : decode cX12_number 27 = .ok (.aload_n 0, 1) := dk_42 (dk_at dksX12_number_1 5 rfl rfl)
theorem dX12_number_28 : decode cX12_number 28 = .ok (.getfield 19, 3) := dk_180 0 19 (dk_at dksX12_number_1 6 rfl rfl)
theorem dX12_number_31 : decode cX12_number 31 = .ok (.invokespecial 55, 3) := dk_183 0 55 (dk_at dksX12_number_1 9 rfl rfl)
theorem dX12_number_34 : decode cX12_number 34 = .ok (.athrow, 1) := dk_191 (dk_at dksX12_number_1 12 rfl rfl)
theorem dX12_number_35 : decode cX12_number 35 = .ok (.aload_n 0, 1) := dk_42 (dk_at dksX12_number_1 13 rfl rfl)
theorem dX12_number_36 : decode cX12_number 36 = .ok (.aload_n 0, 1) := dk_42 (dk_at dksX12_number_1 14 rfl rfl)
theorem dX12_number_37 : decode cX12_number 37 = .ok (.getfield 19, 3) := dk_180 0 19 (dk_at dksX12_number_1 15 rfl rfl)
theorem dX12_number_40 : decode cX12_number 40 = .ok (.invokevirtual 22, 3) := dk_182 0 22 (dk_at dksX12_number_1 18 rfl rfl)
theorem dX12_number_43 : decode cX12_number 43 = .ok (.invokestatic 50, 3) := dk_184 0 50 (dk_at dksX12_number_1 21 rfl rfl)
theorem dX12_number_46 : decode cX12_number 46 = .ok (.ifCond .eq 40, 3) := dk_153 0 40 (dk_at dksX12_number_2 0 rfl rfl)
theorem dX12_number_49 : decode cX12_number 49 = .ok (.bipush 10, 2) := dk_16 10 (dk_at dksX12_number_2 3 rfl rfl)
theorem dX12_number_51 : decode cX12_number 51 = .ok (.iload 4, 2) := dk_21 4 (dk_at dksX12_number_2 5 rfl rfl)
theorem dX12_number_53 : decode cX12_number 53 = .ok (.imul, 1) := dk_104 (dk_at dksX12_number_2 7 rfl rfl)
theorem dX12_number_54 : decode cX12_number 54 = .ok (.aload_n 0, 1) := dk_42 (dk_at dksX12_number_2 8 rfl rfl)
theorem dX12_number_55 : decode cX12_number 55 = .ok (.aload_n 0, 1) := dk_42 (dk_at dksX12_number_2 9 rfl rfl)
theorem dX12_number_56 : decode cX12_number 56 = .ok (.getfield 19, 3) := dk_180 0 19 (dk_at dksX12_number_2 10 rfl rfl)
theorem dX12_number_59 : decode cX12_number 59 = .ok (.invokevirtual 22, 3) := dk_182 0 22 (dk_at dksX12_number_2 13 rfl rfl)
theorem dX12_number_62 : decode cX12_number 62 = .ok (.iadd, 1) := dk_96 (dk_at dksX12_number_2 16 rfl rfl)
theorem dX12_number_63 : decode cX12_number 63 = .ok (.bipush 48, 2) := dk_16 48 (dk_at dksX12_number_2 17 rfl rfl)
theorem dX12_number_65 : decode cX12_number 65 = .ok (.isub, 1) := dk_100 (dk_at dksX12_number_2 19 rfl rfl)
theorem dX12_number_66 : decode cX12_number 66 = .ok (.ldc 58, 2) := dk_18 58 (dk_at dksX12_number_2 20 rfl rfl)
theorem dX12_number_68 : decode cX12_number 68 = .ok (.invokestatic 59, 3) := dk_184 0 59 (dk_at dksX12_number_3 0 rfl rfl)
theorem dX12_number_71 : decode cX12_number 71 = .ok (.istore 4, 2) := dk_54 4 (dk_at dksX12_number_3 3 rfl rfl)
theorem dX12_number_73 : decode cX12_number 73 = .ok (.aload_n 0, 1) := dk_42 (dk_at dksX12_number_3 5 rfl rfl)
theorem dX12_number_74 : decode cX12_number 74 = .ok (.dup, 1) := dk_89 (dk_at dksX12_number_3 6 rfl rfl)
theorem dX12_number_75 : decode cX12_number 75 = .ok (.getfield 19, 3) := dk_180 0 19 (dk_at dksX12_number_3 7 rfl rfl)
theorem dX12_number_78 : decode cX12_number 78 = .ok (.iconst 1, 1) := dk_4 (dk_at dksX12_number_3 10 rfl rfl)
theorem dX12_number_79 : decode cX12_number 79 = .ok (.iadd, 1) := dk_96 (dk_at dksX12_number_3 11 rfl rfl)
theorem dX12_number_80 : decode cX12_number 80 = .ok (.putfield 19, 3) := dk_181 0 19 (dk_at dksX12_number_3 12 rfl rfl)
theorem dX12_number_83 : decode cX12_number 83 = .ok (.goto (-48), 3) := dk_167 255 208 (dk_at dksX12_number_3 15 rfl rfl)
theorem dX12_number_86 : decode cX12_number 86 = .ok (.iload 4, 2) := dk_21 4 (dk_at dksX12_number_3 18 rfl rfl)
theorem dX12_number_88 : decode cX12_number 88 = .ok (.iload_n 1, 1) := dk_27 (dk_at dksX12_number_3 20 rfl rfl)
theorem dX12_number_89 : decode cX12_number 89 = .ok (.if_icmp .lt 9, 3) := dk_161 0 9 (dk_at dksX12_number_3 21 rfl rfl)
theorem dX12_number_92 : decode cX12_number 92 = .ok (.iload 4, 2) := dk_21 4 (dk_at dksX12_number_4 0 rfl rfl)
theorem dX12_number_94 : decode cX12_number 94 = .ok (.iload_n 2, 1) := dk_28 (dk_at dksX12_number_4 2 rfl rfl)
theorem dX12_number_95 : decode cX12_number 95 = .ok (.if_icmp .le 13, 3) := dk_164 0 13 (dk_at dksX12_number_4 3 rfl rfl)
theorem dX12_number_98 : decode cX12_number 98 = .ok (.new 53, 3) := dk_187 0 53 (dk_at dksX12_number_4 6 rfl rfl)
theorem dX12_number_101 : decode cX12_number 101 = .ok (.dup, 1) := dk_89 (dk_at dksX12_number_4 9 rfl rfl)
theorem dX12_number_102 : decode cX12_number 102 = .ok (.iconst 2, 1) := dk_5 (dk_at dksX12_number_4 10 rfl rfl)
theorem dX12_number_103 : decode cX12_number 103 = .ok (.iload_n 3, 1) := dk_29 (dk_at dksX12_number_4 11 rfl rfl)
theorem dX12_number_104 : decode cX12_number 104 = .ok (.invokespecial 55, 3) := dk_183 0 55 (dk_at dksX12_number_4 12 rfl rfl)
theorem dX12_number_107 : decode cX12_number 107 = .ok (.athrow, 1) := dk_191 (dk_at dksX12_number_4 15 rfl rfl)
theorem dX12_number_108 : decode cX12_number 108 = .ok (.iload 4, 2) := dk_21 4 (dk_at dksX12_number_4 16 rfl rfl)
theorem dX12_number_110 : decode cX12_number 110 = .ok (.ireturn, 1) := dk_172 (dk_at dksX12_number_4 18 rfl rfl)
abbrev cX12_isDigit : ByteArray := prog_8_method_6_code
def yX12_isDigit : MethodName := ⟨RX12, "isDigit", "(I)Z"⟩
def dkwX12_isDigit_0 : List UInt8 := [26, 16, 48, 161, 0, 13, 26, 16, 57, 163, 0, 7, 4, 167, 0, 4, 3, 172]
abbrev dktX12_isDigit_0 : List UInt8 := dkwX12_isDigit_0 ++ []
theorem dksX12_isDigit_0 : cX12_isDigit.data.toList.drop 0 = dktX12_isDigit_0 := by decide +kernel
theorem dX12_isDigit_0 : decode cX12_isDigit 0 = .ok (.iload_n 0, 1) := dk_26 (dk_at dksX12_isDigit_0 0 rfl rfl)
theorem dX12_isDigit_1 : decode cX12_isDigit 1 = .ok (.bipush 48, 2) := dk_16 48 (dk_at dksX12_isDigit_0 1 rfl rfl)
theorem dX12_isDigit_3 : decode cX12_isDigit 3 = .ok (.if_icmp .lt 13, 3) := dk_161 0 13 (dk_at dksX12_isDigit_0 3 rfl rfl)
theorem dX12_isDigit_6 : decode cX12_isDigit 6 = .ok (.iload_n 0, 1) := dk_26 (dk_at dksX12_isDigit_0 6 rfl rfl)
theorem dX12_isDigit_7 : decode cX12_isDigit 7 = .ok (.bipush 57, 2) := dk_16 57 (dk_at dksX12_isDigit_0 7 rfl rfl)
theorem dX12_isDigit_9 : decode cX12_isDigit 9 = .ok (.if_icmp .gt 7, 3) := dk_163 0 7 (dk_at dksX12_isDigit_0 9 rfl rfl)
theorem dX12_isDigit_12 : decode cX12_isDigit 12 = .ok (.iconst 1, 1) := dk_4 (dk_at dksX12_isDigit_0 12 rfl rfl)
theorem dX12_isDigit_13 : decode cX12_isDigit 13 = .ok (.goto 4, 3) := dk_167 0 4 (dk_at dksX12_isDigit_0 13 rfl rfl)
theorem dX12_isDigit_16 : decode cX12_isDigit 16 = .ok (.iconst 0, 1) := dk_3 (dk_at dksX12_isDigit_0 16 rfl rfl)
theorem dX12_isDigit_17 : decode cX12_isDigit 17 = .ok (.ireturn, 1) := dk_172 (dk_at dksX12_isDigit_0 17 rfl rfl)
abbrev cX12_sign : ByteArray := prog_8_method_11_code
def yX12_sign : MethodName := ⟨RX12, "sign", "(C)V"⟩
def dkwX12_sign_1 : List UInt8 := [180, 0, 19, 4, 96, 181, 0, 19, 177]
abbrev dktX12_sign_1 : List UInt8 := dkwX12_sign_1 ++ []
def dkwX12_sign_0 : List UInt8 := [42, 182, 0, 26, 27, 159, 0, 16, 187, 0, 53, 89, 4, 42, 180, 0, 19, 183, 0, 55, 191, 42, 89]
abbrev dktX12_sign_0 : List UInt8 := dkwX12_sign_0 ++ dktX12_sign_1
theorem dksX12_sign_0 : cX12_sign.data.toList.drop 0 = dktX12_sign_0 := by decide +kernel
theorem dksX12_sign_1 : cX12_sign.data.toList.drop 23 = dktX12_sign_1 := dk_seg dksX12_sign_0 23 rfl rfl
theorem dX12_sign_0 : decode cX12_sign 0 = .ok (.aload_n 0, 1) := dk_42 (dk_at dksX12_sign_0 0 rfl rfl)
theorem dX12_sign_1 : decode cX12_sign 1 = .ok (.invokevirtual 26, 3) := dk_182 0 26 (dk_at dksX12_sign_0 1 rfl rfl)
theorem dX12_sign_4 : decode cX12_sign 4 = .ok (.iload_n 1, 1) := dk_27 (dk_at dksX12_sign_0 4 rfl rfl)
theorem dX12_sign_5 : decode cX12_sign 5 = .ok (.if_icmp .eq 16, 3) := dk_159 0 16 (dk_at dksX12_sign_0 5 rfl rfl)
theorem dX12_sign_8 : decode cX12_sign 8 = .ok (.new 53, 3) := dk_187 0 53 (dk_at dksX12_sign_0 8 rfl rfl)
theorem dX12_sign_11 : decode cX12_sign 11 = .ok (.dup, 1) := dk_89 (dk_at dksX12_sign_0 11 rfl rfl)
theorem dX12_sign_12 : decode cX12_sign 12 = .ok (.iconst 1, 1) := dk_4 (dk_at dksX12_sign_0 12 rfl rfl)
theorem dX12_sign_13 : decode cX12_sign 13 = .ok (.aload_n 0, 1) := dk_42 (dk_at dksX12_sign_0 13 rfl rfl)
theorem dX12_sign_14 : decode cX12_sign 14 = .ok (.getfield 19, 3) := dk_180 0 19 (dk_at dksX12_sign_0 14 rfl rfl)
theorem dX12_sign_17 : decode cX12_sign 17 = .ok (.invokespecial 55, 3) := dk_183 0 55 (dk_at dksX12_sign_0 17 rfl rfl)
theorem dX12_sign_20 : decode cX12_sign 20 = .ok (.athrow, 1) := dk_191 (dk_at dksX12_sign_0 20 rfl rfl)
theorem dX12_sign_21 : decode cX12_sign 21 = .ok (.aload_n 0, 1) := dk_42 (dk_at dksX12_sign_0 21 rfl rfl)
theorem dX12_sign_22 : decode cX12_sign 22 = .ok (.dup, 1) := dk_89 (dk_at dksX12_sign_0 22 rfl rfl)
theorem dX12_sign_23 : decode cX12_sign 23 = .ok (.getfield 19, 3) := dk_180 0 19 (dk_at dksX12_sign_1 0 rfl rfl)
theorem dX12_sign_26 : decode cX12_sign 26 = .ok (.iconst 1, 1) := dk_4 (dk_at dksX12_sign_1 3 rfl rfl)
theorem dX12_sign_27 : decode cX12_sign 27 = .ok (.iadd, 1) := dk_96 (dk_at dksX12_sign_1 4 rfl rfl)
theorem dX12_sign_28 : decode cX12_sign 28 = .ok (.putfield 19, 3) := dk_181 0 19 (dk_at dksX12_sign_1 5 rfl rfl)
theorem dX12_sign_31 : decode cX12_sign 31 = .ok (.return_, 1) := dk_177 (dk_at dksX12_sign_1 8 rfl rfl)
abbrev cX12_opens : ByteArray := prog_8_method_13_code
def yX12_opens : MethodName := ⟨RX12, "opens", "()V"⟩
def dkwX12_opens_1 : List UInt8 := [180, 0, 65, 4, 96, 181, 0, 65, 177]
abbrev dktX12_opens_1 : List UInt8 := dkwX12_opens_1 ++ []
def dkwX12_opens_0 : List UInt8 := [42, 180, 0, 65, 16, 6, 160, 0, 16, 187, 0, 53, 89, 6, 42, 182, 0, 30, 183, 0, 55, 191, 42, 89]
abbrev dktX12_opens_0 : List UInt8 := dkwX12_opens_0 ++ dktX12_opens_1
theorem dksX12_opens_0 : cX12_opens.data.toList.drop 0 = dktX12_opens_0 := by decide +kernel
theorem dksX12_opens_1 : cX12_opens.data.toList.drop 24 = dktX12_opens_1 := dk_seg dksX12_opens_0 24 rfl rfl
theorem dX12_opens_0 : decode cX12_opens 0 = .ok (.aload_n 0, 1) := dk_42 (dk_at dksX12_opens_0 0 rfl rfl)
theorem dX12_opens_1 : decode cX12_opens 1 = .ok (.getfield 65, 3) := dk_180 0 65 (dk_at dksX12_opens_0 1 rfl rfl)
theorem dX12_opens_4 : decode cX12_opens 4 = .ok (.bipush 6, 2) := dk_16 6 (dk_at dksX12_opens_0 4 rfl rfl)
theorem dX12_opens_6 : decode cX12_opens 6 = .ok (.if_icmp .ne 16, 3) := dk_160 0 16 (dk_at dksX12_opens_0 6 rfl rfl)
theorem dX12_opens_9 : decode cX12_opens 9 = .ok (.new 53, 3) := dk_187 0 53 (dk_at dksX12_opens_0 9 rfl rfl)
theorem dX12_opens_12 : decode cX12_opens 12 = .ok (.dup, 1) := dk_89 (dk_at dksX12_opens_0 12 rfl rfl)
theorem dX12_opens_13 : decode cX12_opens 13 = .ok (.iconst 3, 1) := dk_6 (dk_at dksX12_opens_0 13 rfl rfl)
theorem dX12_opens_14 : decode cX12_opens 14 = .ok (.aload_n 0, 1) := dk_42 (dk_at dksX12_opens_0 14 rfl rfl)
theorem dX12_opens_15 : decode cX12_opens 15 = .ok (.invokevirtual 30, 3) := dk_182 0 30 (dk_at dksX12_opens_0 15 rfl rfl)
theorem dX12_opens_18 : decode cX12_opens 18 = .ok (.invokespecial 55, 3) := dk_183 0 55 (dk_at dksX12_opens_0 18 rfl rfl)
theorem dX12_opens_21 : decode cX12_opens 21 = .ok (.athrow, 1) := dk_191 (dk_at dksX12_opens_0 21 rfl rfl)
theorem dX12_opens_22 : decode cX12_opens 22 = .ok (.aload_n 0, 1) := dk_42 (dk_at dksX12_opens_0 22 rfl rfl)
theorem dX12_opens_23 : decode cX12_opens 23 = .ok (.dup, 1) := dk_89 (dk_at dksX12_opens_0 23 rfl rfl)
theorem dX12_opens_24 : decode cX12_opens 24 = .ok (.getfield 65, 3) := dk_180 0 65 (dk_at dksX12_opens_1 0 rfl rfl)
theorem dX12_opens_27 : decode cX12_opens 27 = .ok (.iconst 1, 1) := dk_4 (dk_at dksX12_opens_1 3 rfl rfl)
theorem dX12_opens_28 : decode cX12_opens 28 = .ok (.iadd, 1) := dk_96 (dk_at dksX12_opens_1 4 rfl rfl)
theorem dX12_opens_29 : decode cX12_opens 29 = .ok (.putfield 65, 3) := dk_181 0 65 (dk_at dksX12_opens_1 5 rfl rfl)
theorem dX12_opens_32 : decode cX12_opens 32 = .ok (.return_, 1) := dk_177 (dk_at dksX12_opens_1 8 rfl rfl)
abbrev cX12_closes : ByteArray := prog_8_method_14_code
def yX12_closes : MethodName := ⟨RX12, "closes", "()V"⟩
def dkwX12_closes_0 : List UInt8 := [42, 89, 180, 0, 65, 4, 100, 181, 0, 65, 177]
abbrev dktX12_closes_0 : List UInt8 := dkwX12_closes_0 ++ []
theorem dksX12_closes_0 : cX12_closes.data.toList.drop 0 = dktX12_closes_0 := by decide +kernel
theorem dX12_closes_0 : decode cX12_closes 0 = .ok (.aload_n 0, 1) := dk_42 (dk_at dksX12_closes_0 0 rfl rfl)
theorem dX12_closes_1 : decode cX12_closes 1 = .ok (.dup, 1) := dk_89 (dk_at dksX12_closes_0 1 rfl rfl)
theorem dX12_closes_2 : decode cX12_closes 2 = .ok (.getfield 65, 3) := dk_180 0 65 (dk_at dksX12_closes_0 2 rfl rfl)
theorem dX12_closes_5 : decode cX12_closes 5 = .ok (.iconst 1, 1) := dk_4 (dk_at dksX12_closes_0 5 rfl rfl)
theorem dX12_closes_6 : decode cX12_closes 6 = .ok (.isub, 1) := dk_100 (dk_at dksX12_closes_0 6 rfl rfl)
theorem dX12_closes_7 : decode cX12_closes 7 = .ok (.putfield 65, 3) := dk_181 0 65 (dk_at dksX12_closes_0 7 rfl rfl)
theorem dX12_closes_10 : decode cX12_closes 10 = .ok (.return_, 1) := dk_177 (dk_at dksX12_closes_0 10 rfl rfl)
abbrev cX12_takesSign : ByteArray := prog_8_method_12_code
def yX12_takesSign : MethodName := ⟨RX12, "takesSign", "(C)Z"⟩
def dkwX12_takesSign_1 : List UInt8 := [96, 181, 0, 19, 28, 172]
abbrev dktX12_takesSign_1 : List UInt8 := dkwX12_takesSign_1 ++ []
def dkwX12_takesSign_0 : List UInt8 := [42, 182, 0, 26, 27, 160, 0, 7, 4, 167, 0, 4, 3, 61, 28, 153, 0, 13, 42, 89, 180, 0, 19, 4]
abbrev dktX12_takesSign_0 : List UInt8 := dkwX12_takesSign_0 ++ dktX12_takesSign_1
theorem dksX12_takesSign_0 : cX12_takesSign.data.toList.drop 0 = dktX12_takesSign_0 := by decide +kernel
theorem dksX12_takesSign_1 : cX12_takesSign.data.toList.drop 24 = dktX12_takesSign_1 := dk_seg dksX12_takesSign_0 24 rfl rfl
theorem dX12_takesSign_0 : decode cX12_takesSign 0 = .ok (.aload_n 0, 1) := dk_42 (dk_at dksX12_takesSign_0 0 rfl rfl)
theorem dX12_takesSign_1 : decode cX12_takesSign 1 = .ok (.invokevirtual 26, 3) := dk_182 0 26 (dk_at dksX12_takesSign_0 1 rfl rfl)
theorem dX12_takesSign_4 : decode cX12_takesSign 4 = .ok (.iload_n 1, 1) := dk_27 (dk_at dksX12_takesSign_0 4 rfl rfl)
theorem dX12_takesSign_5 : decode cX12_takesSign 5 = .ok (.if_icmp .ne 7, 3) := dk_160 0 7 (dk_at dksX12_takesSign_0 5 rfl rfl)
theorem dX12_takesSign_8 : decode cX12_takesSign 8 = .ok (.iconst 1, 1) := dk_4 (dk_at dksX12_takesSign_0 8 rfl rfl)
theorem dX12_takesSign_9 : decode cX12_takesSign 9 = .ok (.goto 4, 3) := dk_167 0 4 (dk_at dksX12_takesSign_0 9 rfl rfl)
theorem dX12_takesSign_12 : decode cX12_takesSign 12 = .ok (.iconst 0, 1) := dk_3 (dk_at dksX12_takesSign_0 12 rfl rfl)
theorem dX12_takesSign_13 : decode cX12_takesSign 13 = .ok (.istore_n 2, 1) := dk_61 (dk_at dksX12_takesSign_0 13 rfl rfl)
theorem dX12_takesSign_14 : decode cX12_takesSign 14 = .ok (.iload_n 2, 1) := dk_28 (dk_at dksX12_takesSign_0 14 rfl rfl)
theorem dX12_takesSign_15 : decode cX12_takesSign 15 = .ok (.ifCond .eq 13, 3) := dk_153 0 13 (dk_at dksX12_takesSign_0 15 rfl rfl)
theorem dX12_takesSign_18 : decode cX12_takesSign 18 = .ok (.aload_n 0, 1) := dk_42 (dk_at dksX12_takesSign_0 18 rfl rfl)
theorem dX12_takesSign_19 : decode cX12_takesSign 19 = .ok (.dup, 1) := dk_89 (dk_at dksX12_takesSign_0 19 rfl rfl)
theorem dX12_takesSign_20 : decode cX12_takesSign 20 = .ok (.getfield 19, 3) := dk_180 0 19 (dk_at dksX12_takesSign_0 20 rfl rfl)
theorem dX12_takesSign_23 : decode cX12_takesSign 23 = .ok (.iconst 1, 1) := dk_4 (dk_at dksX12_takesSign_0 23 rfl rfl)
theorem dX12_takesSign_24 : decode cX12_takesSign 24 = .ok (.iadd, 1) := dk_96 (dk_at dksX12_takesSign_1 0 rfl rfl)
theorem dX12_takesSign_25 : decode cX12_takesSign 25 = .ok (.putfield 19, 3) := dk_181 0 19 (dk_at dksX12_takesSign_1 1 rfl rfl)
theorem dX12_takesSign_28 : decode cX12_takesSign 28 = .ok (.iload_n 2, 1) := dk_28 (dk_at dksX12_takesSign_1 4 rfl rfl)
theorem dX12_takesSign_29 : decode cX12_takesSign 29 = .ok (.ireturn, 1) := dk_172 (dk_at dksX12_takesSign_1 5 rfl rfl)
abbrev cX12_ends : ByteArray := prog_8_method_15_code
def yX12_ends : MethodName := ⟨RX12, "ends", "()V"⟩
def dkwX12_ends_0 : List UInt8 := [42, 182, 0, 26, 2, 159, 0, 16, 187, 0, 53, 89, 4, 42, 180, 0, 19, 183, 0, 55, 191, 177]
abbrev dktX12_ends_0 : List UInt8 := dkwX12_ends_0 ++ []
theorem dksX12_ends_0 : cX12_ends.data.toList.drop 0 = dktX12_ends_0 := by decide +kernel
theorem dX12_ends_0 : decode cX12_ends 0 = .ok (.aload_n 0, 1) := dk_42 (dk_at dksX12_ends_0 0 rfl rfl)
theorem dX12_ends_1 : decode cX12_ends 1 = .ok (.invokevirtual 26, 3) := dk_182 0 26 (dk_at dksX12_ends_0 1 rfl rfl)
theorem dX12_ends_4 : decode cX12_ends 4 = .ok (.iconst (-1), 1) := dk_2 (dk_at dksX12_ends_0 4 rfl rfl)
theorem dX12_ends_5 : decode cX12_ends 5 = .ok (.if_icmp .eq 16, 3) := dk_159 0 16 (dk_at dksX12_ends_0 5 rfl rfl)
theorem dX12_ends_8 : decode cX12_ends 8 = .ok (.new 53, 3) := dk_187 0 53 (dk_at dksX12_ends_0 8 rfl rfl)
theorem dX12_ends_11 : decode cX12_ends 11 = .ok (.dup, 1) := dk_89 (dk_at dksX12_ends_0 11 rfl rfl)
theorem dX12_ends_12 : decode cX12_ends 12 = .ok (.iconst 1, 1) := dk_4 (dk_at dksX12_ends_0 12 rfl rfl)
theorem dX12_ends_13 : decode cX12_ends 13 = .ok (.aload_n 0, 1) := dk_42 (dk_at dksX12_ends_0 13 rfl rfl)
theorem dX12_ends_14 : decode cX12_ends 14 = .ok (.getfield 19, 3) := dk_180 0 19 (dk_at dksX12_ends_0 14 rfl rfl)
theorem dX12_ends_17 : decode cX12_ends 17 = .ok (.invokespecial 55, 3) := dk_183 0 55 (dk_at dksX12_ends_0 17 rfl rfl)
theorem dX12_ends_20 : decode cX12_ends 20 = .ok (.athrow, 1) := dk_191 (dk_at dksX12_ends_0 20 rfl rfl)
theorem dX12_ends_21 : decode cX12_ends 21 = .ok (.return_, 1) := dk_177 (dk_at dksX12_ends_0 21 rfl rfl)
theorem q111 : (Jvm.Cond.initialized "RainWheel$Reader") ∈ lw_all := lw_g (lw_at lw_m1 16 rfl) rfl
theorem q791 : (Jvm.Cond.instantiable "RainWheel$Reader" (4 : Nat)) ∈ lw_all := lw_g (lw_at lw_m3 216 rfl) rfl
theorem q793 : (Jvm.Cond.instanceMethod ({ cls := "RainWheel$Reader", name := "<init>", desc := "([BI)V" } : Jvm.MethodName)) ∈ lw_all := lw_g (lw_at lw_m3 218 rfl) rfl
theorem q794 : (Jvm.Cond.code ({ cls := "RainWheel$Reader", name := "<init>", desc := "([BI)V" } : Jvm.MethodName) prog_8_method_1_code (3 : Nat) (Option.none : Option Jvm.ClassFile.FieldType)) ∈ lw_all := lw_g (lw_at lw_m3 219 rfl) rfl
theorem q795 : (Jvm.Cond.methodLink "RainWheel$Reader" (3 : Nat) ({ cls := "java/lang/Object", name := "<init>", desc := "()V" } : Jvm.MethodName)) ∈ lw_all := lw_g (lw_at lw_m3 220 rfl) rfl
theorem q796 : (Jvm.Cond.fieldLink "RainWheel$Reader" (9 : Nat) "RainWheel$Reader" "bytes" "[B") ∈ lw_all := lw_g (lw_at lw_m3 221 rfl) rfl
theorem q797 : (Jvm.Cond.fieldLink "RainWheel$Reader" (15 : Nat) "RainWheel$Reader" "end" "I") ∈ lw_all := lw_g (lw_at lw_m3 222 rfl) rfl
theorem q798 : (Jvm.Cond.fieldLink "RainWheel$Reader" (19 : Nat) "RainWheel$Reader" "at" "I") ∈ lw_all := lw_g (lw_at lw_m3 223 rfl) rfl
theorem q799 : (Jvm.Cond.fieldLink "RainWheel$Reader" (65 : Nat) "RainWheel$Reader" "open" "I") ∈ lw_all := lw_g (lw_at lw_m3 224 rfl) rfl
theorem q800 : (Jvm.Cond.laysFinal "RainWheel$Reader" "RainWheel$Reader" "bytes" "[B") ∈ lw_all := lw_g (lw_at lw_m3 225 rfl) rfl
theorem q801 : (Jvm.Cond.soleField "RainWheel$Reader" "bytes") ∈ lw_all := lw_g (lw_at lw_m3 226 rfl) rfl
theorem q802 : (Jvm.Cond.laysFinal "RainWheel$Reader" "RainWheel$Reader" "end" "I") ∈ lw_all := lw_g (lw_at lw_m3 227 rfl) rfl
theorem q803 : (Jvm.Cond.soleField "RainWheel$Reader" "end") ∈ lw_all := lw_g (lw_at lw_m3 228 rfl) rfl
theorem q804 : (Jvm.Cond.lays "RainWheel$Reader" "RainWheel$Reader" "at" "I") ∈ lw_all := lw_g (lw_at lw_m3 229 rfl) rfl
theorem q805 : (Jvm.Cond.soleField "RainWheel$Reader" "at") ∈ lw_all := lw_g (lw_at lw_m3 230 rfl) rfl
theorem q806 : (Jvm.Cond.lays "RainWheel$Reader" "RainWheel$Reader" "open" "I") ∈ lw_all := lw_g (lw_at lw_m3 231 rfl) rfl
theorem q807 : (Jvm.Cond.soleField "RainWheel$Reader" "open") ∈ lw_all := lw_g (lw_at lw_m3 232 rfl) rfl
theorem q808 : (Jvm.Cond.superclass "RainWheel$Reader" "java/lang/Object") ∈ lw_all := lw_g (lw_at lw_m3 233 rfl) rfl
theorem q847 : (Jvm.Cond.instanceMethod ({ cls := "RainWheel$Reader", name := "now", desc := "()I" } : Jvm.MethodName)) ∈ lw_all := lw_g (lw_at lw_m4 32 rfl) rfl
theorem q848 : (Jvm.Cond.selects "RainWheel$Reader" ({ cls := "RainWheel$Reader", name := "now", desc := "()I" } : Jvm.MethodName) ({ cls := "RainWheel$Reader", name := "now", desc := "()I" } : Jvm.MethodName)) ∈ lw_all := lw_g (lw_at lw_m4 33 rfl) rfl
theorem q849 : (Jvm.Cond.code ({ cls := "RainWheel$Reader", name := "now", desc := "()I" } : Jvm.MethodName) prog_8_method_3_code (1 : Nat) (Option.some Jvm.ClassFile.FieldType.int)) ∈ lw_all := lw_g (lw_at lw_m4 34 rfl) rfl
theorem q850 : (Jvm.Cond.methodLink "RainWheel$Reader" (22 : Nat) ({ cls := "RainWheel$Reader", name := "byteAt", desc := "(I)I" } : Jvm.MethodName)) ∈ lw_all := lw_g (lw_at lw_m4 35 rfl) rfl
theorem q851 : (Jvm.Cond.privateMethod ({ cls := "RainWheel$Reader", name := "byteAt", desc := "(I)I" } : Jvm.MethodName)) ∈ lw_tbl := lw_at lw_m4 36 rfl
theorem q852 : (Jvm.Cond.instanceMethod ({ cls := "RainWheel$Reader", name := "byteAt", desc := "(I)I" } : Jvm.MethodName)) ∈ lw_all := lw_g (lw_at lw_m4 37 rfl) rfl
theorem q853 : (Jvm.Cond.code ({ cls := "RainWheel$Reader", name := "byteAt", desc := "(I)I" } : Jvm.MethodName) prog_8_method_2_code (2 : Nat) (Option.some Jvm.ClassFile.FieldType.int)) ∈ lw_all := lw_g (lw_at lw_m4 38 rfl) rfl
theorem q859 : (Jvm.Cond.instanceMethod ({ cls := "RainWheel$Reader", name := "place", desc := "()I" } : Jvm.MethodName)) ∈ lw_all := lw_g (lw_at lw_m4 44 rfl) rfl
theorem q860 : (Jvm.Cond.selects "RainWheel$Reader" ({ cls := "RainWheel$Reader", name := "place", desc := "()I" } : Jvm.MethodName) ({ cls := "RainWheel$Reader", name := "place", desc := "()I" } : Jvm.MethodName)) ∈ lw_all := lw_g (lw_at lw_m4 45 rfl) rfl
theorem q861 : (Jvm.Cond.code ({ cls := "RainWheel$Reader", name := "place", desc := "()I" } : Jvm.MethodName) prog_8_method_4_code (1 : Nat) (Option.some Jvm.ClassFile.FieldType.int)) ∈ lw_all := lw_g (lw_at lw_m4 46 rfl) rfl
theorem q862 : (Jvm.Cond.methodLink "RainWheel$Reader" (26 : Nat) ({ cls := "RainWheel$Reader", name := "now", desc := "()I" } : Jvm.MethodName)) ∈ lw_all := lw_g (lw_at lw_m4 47 rfl) rfl
theorem q864 : (Jvm.Cond.instanceMethod ({ cls := "RainWheel$Reader", name := "which", desc := "([Ljava/lang/String;)I" } : Jvm.MethodName)) ∈ lw_all := lw_g (lw_at lw_m4 49 rfl) rfl
theorem q865 : (Jvm.Cond.selects "RainWheel$Reader" ({ cls := "RainWheel$Reader", name := "which", desc := "([Ljava/lang/String;)I" } : Jvm.MethodName) ({ cls := "RainWheel$Reader", name := "which", desc := "([Ljava/lang/String;)I" } : Jvm.MethodName)) ∈ lw_all := lw_g (lw_at lw_m4 50 rfl) rfl
theorem q866 : (Jvm.Cond.code ({ cls := "RainWheel$Reader", name := "which", desc := "([Ljava/lang/String;)I" } : Jvm.MethodName) prog_8_method_8_code (3 : Nat) (Option.some Jvm.ClassFile.FieldType.int)) ∈ lw_all := lw_g (lw_at lw_m4 51 rfl) rfl
theorem q867 : (Jvm.Cond.methodLink "RainWheel$Reader" (46 : Nat) ({ cls := "RainWheel$Reader", name := "isWord", desc := "(Ljava/lang/String;)Z" } : Jvm.MethodName)) ∈ lw_all := lw_g (lw_at lw_m4 52 rfl) rfl
theorem q868 : (Jvm.Cond.instanceMethod ({ cls := "RainWheel$Reader", name := "isWord", desc := "(Ljava/lang/String;)Z" } : Jvm.MethodName)) ∈ lw_all := lw_g (lw_at lw_m4 53 rfl) rfl
theorem q869 : (Jvm.Cond.selects "RainWheel$Reader" ({ cls := "RainWheel$Reader", name := "isWord", desc := "(Ljava/lang/String;)Z" } : Jvm.MethodName) ({ cls := "RainWheel$Reader", name := "isWord", desc := "(Ljava/lang/String;)Z" } : Jvm.MethodName)) ∈ lw_all := lw_g (lw_at lw_m4 54 rfl) rfl
theorem q870 : (Jvm.Cond.code ({ cls := "RainWheel$Reader", name := "isWord", desc := "(Ljava/lang/String;)Z" } : Jvm.MethodName) prog_8_method_7_code (5 : Nat) (Option.some Jvm.ClassFile.FieldType.boolean)) ∈ lw_all := lw_g (lw_at lw_m4 55 rfl) rfl
theorem q871 : (Jvm.Cond.methodLink "RainWheel$Reader" (30 : Nat) ({ cls := "RainWheel$Reader", name := "place", desc := "()I" } : Jvm.MethodName)) ∈ lw_all := lw_g (lw_at lw_m4 56 rfl) rfl
theorem q872 : (Jvm.Cond.methodLink "RainWheel$Reader" (33 : Nat) ({ cls := "RainWheel$Reader", name := "isSmall", desc := "(I)Z" } : Jvm.MethodName)) ∈ lw_all := lw_g (lw_at lw_m4 57 rfl) rfl
theorem q873 : (Jvm.Cond.static ({ cls := "RainWheel$Reader", name := "isSmall", desc := "(I)Z" } : Jvm.MethodName)) ∈ lw_all := lw_g (lw_at lw_m4 58 rfl) rfl
theorem q874 : (Jvm.Cond.code ({ cls := "RainWheel$Reader", name := "isSmall", desc := "(I)Z" } : Jvm.MethodName) prog_8_method_5_code (1 : Nat) (Option.some Jvm.ClassFile.FieldType.boolean)) ∈ lw_all := lw_g (lw_at lw_m4 59 rfl) rfl
theorem q875 : (Jvm.Cond.methodLink "RainWheel$Reader" (37 : Nat) ({ cls := "java/lang/String", name := "length", desc := "()I" } : Jvm.MethodName)) ∈ lw_all := lw_g (lw_at lw_m4 60 rfl) rfl
theorem q885 : (Jvm.Cond.methodLink "RainWheel$Reader" (42 : Nat) ({ cls := "java/lang/String", name := "charAt", desc := "(I)C" } : Jvm.MethodName)) ∈ lw_all := lw_g (lw_at lw_m4 70 rfl) rfl
theorem q956 : (Jvm.Cond.instanceMethod ({ cls := "RainWheel$Reader", name := "skipsWord", desc := "()V" } : Jvm.MethodName)) ∈ lw_all := lw_g (lw_at lw_m4 141 rfl) rfl
theorem q957 : (Jvm.Cond.selects "RainWheel$Reader" ({ cls := "RainWheel$Reader", name := "skipsWord", desc := "()V" } : Jvm.MethodName) ({ cls := "RainWheel$Reader", name := "skipsWord", desc := "()V" } : Jvm.MethodName)) ∈ lw_all := lw_g (lw_at lw_m4 142 rfl) rfl
theorem q958 : (Jvm.Cond.code ({ cls := "RainWheel$Reader", name := "skipsWord", desc := "()V" } : Jvm.MethodName) prog_8_method_9_code (1 : Nat) (Option.none : Option Jvm.ClassFile.FieldType)) ∈ lw_all := lw_g (lw_at lw_m4 143 rfl) rfl
theorem q960 : (Jvm.Cond.instanceMethod ({ cls := "RainWheel$Reader", name := "number", desc := "(II)I" } : Jvm.MethodName)) ∈ lw_all := lw_g (lw_at lw_m4 145 rfl) rfl
theorem q961 : (Jvm.Cond.selects "RainWheel$Reader" ({ cls := "RainWheel$Reader", name := "number", desc := "(II)I" } : Jvm.MethodName) ({ cls := "RainWheel$Reader", name := "number", desc := "(II)I" } : Jvm.MethodName)) ∈ lw_all := lw_g (lw_at lw_m4 146 rfl) rfl
theorem q962 : (Jvm.Cond.code ({ cls := "RainWheel$Reader", name := "number", desc := "(II)I" } : Jvm.MethodName) prog_8_method_10_code (5 : Nat) (Option.some Jvm.ClassFile.FieldType.int)) ∈ lw_all := lw_g (lw_at lw_m4 147 rfl) rfl
theorem q963 : (Jvm.Cond.methodLink "RainWheel$Reader" (50 : Nat) ({ cls := "RainWheel$Reader", name := "isDigit", desc := "(I)Z" } : Jvm.MethodName)) ∈ lw_all := lw_g (lw_at lw_m4 148 rfl) rfl
theorem q964 : (Jvm.Cond.static ({ cls := "RainWheel$Reader", name := "isDigit", desc := "(I)Z" } : Jvm.MethodName)) ∈ lw_all := lw_g (lw_at lw_m4 149 rfl) rfl
theorem q965 : (Jvm.Cond.code ({ cls := "RainWheel$Reader", name := "isDigit", desc := "(I)Z" } : Jvm.MethodName) prog_8_method_6_code (1 : Nat) (Option.some Jvm.ClassFile.FieldType.boolean)) ∈ lw_all := lw_g (lw_at lw_m4 150 rfl) rfl
theorem q966 : (Jvm.Cond.classLink "RainWheel$Reader" (53 : Nat) "RainWheel$Wrong") ∈ lw_all := lw_g (lw_at lw_m4 151 rfl) rfl
theorem q967 : (Jvm.Cond.methodLink "RainWheel$Reader" (55 : Nat) ({ cls := "RainWheel$Wrong", name := "<init>", desc := "(II)V" } : Jvm.MethodName)) ∈ lw_all := lw_g (lw_at lw_m4 152 rfl) rfl
theorem q968 : (Jvm.Cond.constant "RainWheel$Reader" (58 : Nat) (1000000 : Int32)) ∈ lw_all := lw_g (lw_at lw_m4 153 rfl) rfl
theorem q969 : (Jvm.Cond.methodLink "RainWheel$Reader" (59 : Nat) ({ cls := "java/lang/Math", name := "min", desc := "(II)I" } : Jvm.MethodName)) ∈ lw_all := lw_g (lw_at lw_m4 154 rfl) rfl
theorem q983 : (Jvm.Cond.instanceMethod ({ cls := "RainWheel$Reader", name := "sign", desc := "(C)V" } : Jvm.MethodName)) ∈ lw_all := lw_g (lw_at lw_m4 168 rfl) rfl
theorem q984 : (Jvm.Cond.selects "RainWheel$Reader" ({ cls := "RainWheel$Reader", name := "sign", desc := "(C)V" } : Jvm.MethodName) ({ cls := "RainWheel$Reader", name := "sign", desc := "(C)V" } : Jvm.MethodName)) ∈ lw_all := lw_g (lw_at lw_m4 169 rfl) rfl
theorem q985 : (Jvm.Cond.code ({ cls := "RainWheel$Reader", name := "sign", desc := "(C)V" } : Jvm.MethodName) prog_8_method_11_code (2 : Nat) (Option.none : Option Jvm.ClassFile.FieldType)) ∈ lw_all := lw_g (lw_at lw_m4 170 rfl) rfl
theorem q1038 : (Jvm.Cond.instanceMethod ({ cls := "RainWheel$Reader", name := "opens", desc := "()V" } : Jvm.MethodName)) ∈ lw_all := lw_g (lw_at lw_m4 223 rfl) rfl
theorem q1039 : (Jvm.Cond.selects "RainWheel$Reader" ({ cls := "RainWheel$Reader", name := "opens", desc := "()V" } : Jvm.MethodName) ({ cls := "RainWheel$Reader", name := "opens", desc := "()V" } : Jvm.MethodName)) ∈ lw_all := lw_g (lw_at lw_m4 224 rfl) rfl
theorem q1040 : (Jvm.Cond.code ({ cls := "RainWheel$Reader", name := "opens", desc := "()V" } : Jvm.MethodName) prog_8_method_13_code (1 : Nat) (Option.none : Option Jvm.ClassFile.FieldType)) ∈ lw_all := lw_g (lw_at lw_m4 225 rfl) rfl
theorem q1044 : (Jvm.Cond.instanceMethod ({ cls := "RainWheel$Reader", name := "closes", desc := "()V" } : Jvm.MethodName)) ∈ lw_all := lw_g (lw_at lw_m4 229 rfl) rfl
theorem q1045 : (Jvm.Cond.selects "RainWheel$Reader" ({ cls := "RainWheel$Reader", name := "closes", desc := "()V" } : Jvm.MethodName) ({ cls := "RainWheel$Reader", name := "closes", desc := "()V" } : Jvm.MethodName)) ∈ lw_all := lw_g (lw_at lw_m4 230 rfl) rfl
theorem q1046 : (Jvm.Cond.code ({ cls := "RainWheel$Reader", name := "closes", desc := "()V" } : Jvm.MethodName) prog_8_method_14_code (1 : Nat) (Option.none : Option Jvm.ClassFile.FieldType)) ∈ lw_all := lw_g (lw_at lw_m4 231 rfl) rfl
theorem q1087 : (Jvm.Cond.instanceMethod ({ cls := "RainWheel$Reader", name := "takesSign", desc := "(C)Z" } : Jvm.MethodName)) ∈ lw_all := lw_g (lw_at lw_m5 32 rfl) rfl
theorem q1088 : (Jvm.Cond.selects "RainWheel$Reader" ({ cls := "RainWheel$Reader", name := "takesSign", desc := "(C)Z" } : Jvm.MethodName) ({ cls := "RainWheel$Reader", name := "takesSign", desc := "(C)Z" } : Jvm.MethodName)) ∈ lw_all := lw_g (lw_at lw_m5 33 rfl) rfl
theorem q1089 : (Jvm.Cond.code ({ cls := "RainWheel$Reader", name := "takesSign", desc := "(C)Z" } : Jvm.MethodName) prog_8_method_12_code (3 : Nat) (Option.some Jvm.ClassFile.FieldType.boolean)) ∈ lw_all := lw_g (lw_at lw_m5 34 rfl) rfl
theorem q1091 : (Jvm.Cond.instanceMethod ({ cls := "RainWheel$Reader", name := "ends", desc := "()V" } : Jvm.MethodName)) ∈ lw_all := lw_g (lw_at lw_m5 36 rfl) rfl
theorem q1092 : (Jvm.Cond.selects "RainWheel$Reader" ({ cls := "RainWheel$Reader", name := "ends", desc := "()V" } : Jvm.MethodName) ({ cls := "RainWheel$Reader", name := "ends", desc := "()V" } : Jvm.MethodName)) ∈ lw_all := lw_g (lw_at lw_m5 37 rfl) rfl
theorem q1093 : (Jvm.Cond.code ({ cls := "RainWheel$Reader", name := "ends", desc := "()V" } : Jvm.MethodName) prog_8_method_15_code (1 : Nat) (Option.none : Option Jvm.ClassFile.FieldType)) ∈ lw_all := lw_g (lw_at lw_m5 38 rfl) rfl
theorem q2263 : (Jvm.Cond.castable "RainWheel$Reader" "java/lang/Object") ∈ lw_tbl := lw_at lw_m10 8 rfl

abbrev cX13_init : ByteArray := prog_17_method_1_code
def yX13_init : MethodName := ⟨RX13, "<init>", "(II)V"⟩
def dkwX13_init_0 : List UInt8 := [42, 1, 1, 3, 3, 183, 0, 1, 42, 27, 181, 0, 7, 42, 28, 181, 0, 13, 177]
abbrev dktX13_init_0 : List UInt8 := dkwX13_init_0 ++ []
theorem dksX13_init_0 : cX13_init.data.toList.drop 0 = dktX13_init_0 := by decide +kernel
theorem dX13_init_0 : decode cX13_init 0 = .ok (.aload_n 0, 1) := dk_42 (dk_at dksX13_init_0 0 rfl rfl)
theorem dX13_init_1 : decode cX13_init 1 = .ok (.aconst_null, 1) := dk_1 (dk_at dksX13_init_0 1 rfl rfl)
theorem dX13_init_2 : decode cX13_init 2 = .ok (.aconst_null, 1) := dk_1 (dk_at dksX13_init_0 2 rfl rfl)
theorem dX13_init_3 : decode cX13_init 3 = .ok (.iconst 0, 1) := dk_3 (dk_at dksX13_init_0 3 rfl rfl)
theorem dX13_init_4 : decode cX13_init 4 = .ok (.iconst 0, 1) := dk_3 (dk_at dksX13_init_0 4 rfl rfl)
theorem dX13_init_5 : decode cX13_init 5 = .ok (.invokespecial 1, 3) := dk_183 0 1 (dk_at dksX13_init_0 5 rfl rfl)
theorem dX13_init_8 : decode cX13_init 8 = .ok (.aload_n 0, 1) := dk_42 (dk_at dksX13_init_0 8 rfl rfl)
theorem dX13_init_9 : decode cX13_init 9 = .ok (.iload_n 1, 1) := dk_27 (dk_at dksX13_init_0 9 rfl rfl)
theorem dX13_init_10 : decode cX13_init 10 = .ok (.putfield 7, 3) := dk_181 0 7 (dk_at dksX13_init_0 10 rfl rfl)
theorem dX13_init_13 : decode cX13_init 13 = .ok (.aload_n 0, 1) := dk_42 (dk_at dksX13_init_0 13 rfl rfl)
theorem dX13_init_14 : decode cX13_init 14 = .ok (.iload_n 2, 1) := dk_28 (dk_at dksX13_init_0 14 rfl rfl)
theorem dX13_init_15 : decode cX13_init 15 = .ok (.putfield 13, 3) := dk_181 0 13 (dk_at dksX13_init_0 15 rfl rfl)
theorem dX13_init_18 : decode cX13_init 18 = .ok (.return_, 1) := dk_177 (dk_at dksX13_init_0 18 rfl rfl)
theorem q116 : (Jvm.Cond.initialized "RainWheel$Wrong") ∈ lw_all := lw_g (lw_at lw_m1 21 rfl) rfl
theorem q752 : (Jvm.Cond.selects "RainWheel$Wrong" ({ cls := "java/lang/Throwable", name := "fillInStackTrace", desc := "()Ljava/lang/Throwable;" } : Jvm.MethodName) ({ cls := "java/lang/Throwable", name := "fillInStackTrace", desc := "()Ljava/lang/Throwable;" } : Jvm.MethodName)) ∈ lw_all := lw_g (lw_at lw_m3 177 rfl) rfl
theorem q924 : (Jvm.Cond.instantiable "RainWheel$Wrong" (8 : Nat)) ∈ lw_all := lw_g (lw_at lw_m4 109 rfl) rfl
theorem q925 : (Jvm.Cond.castable "RainWheel$Wrong" "RainWheel$Wrong") ∈ lw_tbl := lw_at lw_m4 110 rfl
theorem q926 : (Jvm.Cond.selects "RainWheel$Wrong" ({ cls := "java/lang/Throwable", name := "fillInStackTrace", desc := "(I)Ljava/lang/Throwable;" } : Jvm.MethodName) ({ cls := "java/lang/Throwable", name := "fillInStackTrace", desc := "(I)Ljava/lang/Throwable;" } : Jvm.MethodName)) ∈ lw_all := lw_g (lw_at lw_m4 111 rfl) rfl
theorem q927 : (Jvm.Cond.lays "RainWheel$Wrong" "java/lang/Throwable" "cause" "Ljava/lang/Throwable;") ∈ lw_all := lw_g (lw_at lw_m4 112 rfl) rfl
theorem q928 : (Jvm.Cond.lays "RainWheel$Wrong" "java/lang/Throwable" "stackTrace" "[Ljava/lang/StackTraceElement;") ∈ lw_all := lw_g (lw_at lw_m4 113 rfl) rfl
theorem q929 : (Jvm.Cond.lays "RainWheel$Wrong" "java/lang/Throwable" "suppressedExceptions" "Ljava/util/List;") ∈ lw_all := lw_g (lw_at lw_m4 114 rfl) rfl
theorem q930 : (Jvm.Cond.lays "RainWheel$Wrong" "java/lang/Throwable" "detailMessage" "Ljava/lang/String;") ∈ lw_all := lw_g (lw_at lw_m4 115 rfl) rfl
theorem q931 : (Jvm.Cond.lays "RainWheel$Wrong" "java/lang/Throwable" "backtrace" "Ljava/lang/Object;") ∈ lw_all := lw_g (lw_at lw_m4 116 rfl) rfl
theorem q933 : (Jvm.Cond.instanceMethod ({ cls := "RainWheel$Wrong", name := "<init>", desc := "(II)V" } : Jvm.MethodName)) ∈ lw_all := lw_g (lw_at lw_m4 118 rfl) rfl
theorem q934 : (Jvm.Cond.code ({ cls := "RainWheel$Wrong", name := "<init>", desc := "(II)V" } : Jvm.MethodName) prog_17_method_1_code (3 : Nat) (Option.none : Option Jvm.ClassFile.FieldType)) ∈ lw_all := lw_g (lw_at lw_m4 119 rfl) rfl
theorem q935 : (Jvm.Cond.methodLink "RainWheel$Wrong" (1 : Nat) ({ cls := "java/lang/Exception", name := "<init>", desc := "(Ljava/lang/String;Ljava/lang/Throwable;ZZ)V" } : Jvm.MethodName)) ∈ lw_all := lw_g (lw_at lw_m4 120 rfl) rfl
theorem q941 : (Jvm.Cond.fieldLink "RainWheel$Wrong" (7 : Nat) "RainWheel$Wrong" "why" "I") ∈ lw_all := lw_g (lw_at lw_m4 126 rfl) rfl
theorem q943 : (Jvm.Cond.fieldLink "RainWheel$Wrong" (13 : Nat) "RainWheel$Wrong" "where" "I") ∈ lw_all := lw_g (lw_at lw_m4 128 rfl) rfl
theorem q945 : (Jvm.Cond.laysFinal "RainWheel$Wrong" "RainWheel$Wrong" "why" "I") ∈ lw_all := lw_g (lw_at lw_m4 130 rfl) rfl
theorem q946 : (Jvm.Cond.soleField "RainWheel$Wrong" "why") ∈ lw_all := lw_g (lw_at lw_m4 131 rfl) rfl
theorem q947 : (Jvm.Cond.laysFinal "RainWheel$Wrong" "RainWheel$Wrong" "where" "I") ∈ lw_all := lw_g (lw_at lw_m4 132 rfl) rfl
theorem q948 : (Jvm.Cond.soleField "RainWheel$Wrong" "where") ∈ lw_all := lw_g (lw_at lw_m4 133 rfl) rfl
theorem q949 : (Jvm.Cond.lays "RainWheel$Wrong" "java/lang/Throwable" "depth" "I") ∈ lw_all := lw_g (lw_at lw_m4 134 rfl) rfl
theorem q950 : (Jvm.Cond.superclass "RainWheel$Wrong" "java/lang/Exception") ∈ lw_all := lw_g (lw_at lw_m4 135 rfl) rfl
theorem q2264 : (Jvm.Cond.castable "RainWheel$Wrong" "java/lang/Object") ∈ lw_tbl := lw_at lw_m10 9 rfl

abbrev cX14_init : ByteArray := prog_5_method_1_code
def yX14_init : MethodName := ⟨RX14, "<init>", "(LRainWheel$Reader;)V"⟩
def dkwX14_init_2 : List UInt8 := [177]
abbrev dktX14_init_2 : List UInt8 := dkwX14_init_2 ++ []
def dkwX14_init_1 : List UInt8 := [83, 89, 6, 18, 17, 83, 89, 7, 18, 19, 83, 89, 8, 18, 21, 83, 181, 0, 23, 42, 43, 181, 0, 29]
abbrev dktX14_init_1 : List UInt8 := dkwX14_init_1 ++ dktX14_init_2
def dkwX14_init_0 : List UInt8 := [42, 183, 0, 3, 42, 16, 6, 189, 0, 9, 89, 3, 18, 11, 83, 89, 4, 18, 13, 83, 89, 5, 18, 15]
abbrev dktX14_init_0 : List UInt8 := dkwX14_init_0 ++ dktX14_init_1
theorem dksX14_init_0 : cX14_init.data.toList.drop 0 = dktX14_init_0 := by decide +kernel
theorem dksX14_init_1 : cX14_init.data.toList.drop 24 = dktX14_init_1 := dk_seg dksX14_init_0 24 rfl rfl
theorem dksX14_init_2 : cX14_init.data.toList.drop 48 = dktX14_init_2 := dk_seg dksX14_init_1 24 rfl rfl
theorem dX14_init_0 : decode cX14_init 0 = .ok (.aload_n 0, 1) := dk_42 (dk_at dksX14_init_0 0 rfl rfl)
theorem dX14_init_1 : decode cX14_init 1 = .ok (.invokespecial 3, 3) := dk_183 0 3 (dk_at dksX14_init_0 1 rfl rfl)
theorem dX14_init_4 : decode cX14_init 4 = .ok (.aload_n 0, 1) := dk_42 (dk_at dksX14_init_0 4 rfl rfl)
theorem dX14_init_5 : decode cX14_init 5 = .ok (.bipush 6, 2) := dk_16 6 (dk_at dksX14_init_0 5 rfl rfl)
theorem dX14_init_7 : decode cX14_init 7 = .ok (.anewarray 9, 3) := dk_189 0 9 (dk_at dksX14_init_0 7 rfl rfl)
theorem dX14_init_10 : decode cX14_init 10 = .ok (.dup, 1) := dk_89 (dk_at dksX14_init_0 10 rfl rfl)
theorem dX14_init_11 : decode cX14_init 11 = .ok (.iconst 0, 1) := dk_3 (dk_at dksX14_init_0 11 rfl rfl)
theorem dX14_init_12 : decode cX14_init 12 = .ok (.ldc 11, 2) := dk_18 11 (dk_at dksX14_init_0 12 rfl rfl)
theorem dX14_init_14 : decode cX14_init 14 = .ok (.aastore, 1) := dk_83 (dk_at dksX14_init_0 14 rfl rfl)
theorem dX14_init_15 : decode cX14_init 15 = .ok (.dup, 1) := dk_89 (dk_at dksX14_init_0 15 rfl rfl)
theorem dX14_init_16 : decode cX14_init 16 = .ok (.iconst 1, 1) := dk_4 (dk_at dksX14_init_0 16 rfl rfl)
theorem dX14_init_17 : decode cX14_init 17 = .ok (.ldc 13, 2) := dk_18 13 (dk_at dksX14_init_0 17 rfl rfl)
theorem dX14_init_19 : decode cX14_init 19 = .ok (.aastore, 1) := dk_83 (dk_at dksX14_init_0 19 rfl rfl)
theorem dX14_init_20 : decode cX14_init 20 = .ok (.dup, 1) := dk_89 (dk_at dksX14_init_0 20 rfl rfl)
theorem dX14_init_21 : decode cX14_init 21 = .ok (.iconst 2, 1) := dk_5 (dk_at dksX14_init_0 21 rfl rfl)
theorem dX14_init_22 : decode cX14_init 22 = .ok (.ldc 15, 2) := dk_18 15 (dk_at dksX14_init_0 22 rfl rfl)
theorem dX14_init_24 : decode cX14_init 24 = .ok (.aastore, 1) := dk_83 (dk_at dksX14_init_1 0 rfl rfl)
theorem dX14_init_25 : decode cX14_init 25 = .ok (.dup, 1) := dk_89 (dk_at dksX14_init_1 1 rfl rfl)
theorem dX14_init_26 : decode cX14_init 26 = .ok (.iconst 3, 1) := dk_6 (dk_at dksX14_init_1 2 rfl rfl)
theorem dX14_init_27 : decode cX14_init 27 = .ok (.ldc 17, 2) := dk_18 17 (dk_at dksX14_init_1 3 rfl rfl)
theorem dX14_init_29 : decode cX14_init 29 = .ok (.aastore, 1) := dk_83 (dk_at dksX14_init_1 5 rfl rfl)
theorem dX14_init_30 : decode cX14_init 30 = .ok (.dup, 1) := dk_89 (dk_at dksX14_init_1 6 rfl rfl)
theorem dX14_init_31 : decode cX14_init 31 = .ok (.iconst 4, 1) := dk_7 (dk_at dksX14_init_1 7 rfl rfl)
theorem dX14_init_32 : decode cX14_init 32 = .ok (.ldc 19, 2) := dk_18 19 (dk_at dksX14_init_1 8 rfl rfl)
theorem dX14_init_34 : decode cX14_init 34 = .ok (.aastore, 1) := dk_83 (dk_at dksX14_init_1 10 rfl rfl)
theorem dX14_init_35 : decode cX14_init 35 = .ok (.dup, 1) := dk_89 (dk_at dksX14_init_1 11 rfl rfl)
theorem dX14_init_36 : decode cX14_init 36 = .ok (.iconst 5, 1) := dk_8 (dk_at dksX14_init_1 12 rfl rfl)
theorem dX14_init_37 : decode cX14_init 37 = .ok (.ldc 21, 2) := dk_18 21 (dk_at dksX14_init_1 13 rfl rfl)
theorem dX14_init_39 : decode cX14_init 39 = .ok (.aastore, 1) := dk_83 (dk_at dksX14_init_1 15 rfl rfl)
theorem dX14_init_40 : decode cX14_init 40 = .ok (.putfield 23, 3) := dk_181 0 23 (dk_at dksX14_init_1 16 rfl rfl)
theorem dX14_init_43 : decode cX14_init 43 = .ok (.aload_n 0, 1) := dk_42 (dk_at dksX14_init_1 19 rfl rfl)
theorem dX14_init_44 : decode cX14_init 44 = .ok (.aload_n 1, 1) := dk_43 (dk_at dksX14_init_1 20 rfl rfl)
theorem dX14_init_45 : decode cX14_init 45 = .ok (.putfield 29, 3) := dk_181 0 29 (dk_at dksX14_init_1 21 rfl rfl)
theorem dX14_init_48 : decode cX14_init 48 = .ok (.return_, 1) := dk_177 (dk_at dksX14_init_2 0 rfl rfl)
abbrev cX14_reads : ByteArray := prog_5_method_2_code
def yX14_reads : MethodName := ⟨RX14, "reads", "()LRainWheel$Term;"⟩
def dkwX14_reads_0 : List UInt8 := [42, 182, 0, 33, 76, 42, 180, 0, 29, 182, 0, 37, 43, 176]
abbrev dktX14_reads_0 : List UInt8 := dkwX14_reads_0 ++ []
theorem dksX14_reads_0 : cX14_reads.data.toList.drop 0 = dktX14_reads_0 := by decide +kernel
theorem dX14_reads_0 : decode cX14_reads 0 = .ok (.aload_n 0, 1) := dk_42 (dk_at dksX14_reads_0 0 rfl rfl)
theorem dX14_reads_1 : decode cX14_reads 1 = .ok (.invokevirtual 33, 3) := dk_182 0 33 (dk_at dksX14_reads_0 1 rfl rfl)
theorem dX14_reads_4 : decode cX14_reads 4 = .ok (.astore_n 1, 1) := dk_76 (dk_at dksX14_reads_0 4 rfl rfl)
theorem dX14_reads_5 : decode cX14_reads 5 = .ok (.aload_n 0, 1) := dk_42 (dk_at dksX14_reads_0 5 rfl rfl)
theorem dX14_reads_6 : decode cX14_reads 6 = .ok (.getfield 29, 3) := dk_180 0 29 (dk_at dksX14_reads_0 6 rfl rfl)
theorem dX14_reads_9 : decode cX14_reads 9 = .ok (.invokevirtual 37, 3) := dk_182 0 37 (dk_at dksX14_reads_0 9 rfl rfl)
theorem dX14_reads_12 : decode cX14_reads 12 = .ok (.aload_n 1, 1) := dk_43 (dk_at dksX14_reads_0 12 rfl rfl)
theorem dX14_reads_13 : decode cX14_reads 13 = .ok (.areturn, 1) := dk_176 (dk_at dksX14_reads_0 13 rfl rfl)
abbrev cX14_sum : ByteArray := prog_5_method_3_code
def yX14_sum : MethodName := ⟨RX14, "sum", "()LRainWheel$Term;"⟩
def dkwX14_sum_2 : List UInt8 := [187, 0, 49, 89, 16, 45, 43, 42, 182, 0, 42, 183, 0, 51, 76, 167, 255, 199, 43, 176]
abbrev dktX14_sum_2 : List UInt8 := dkwX14_sum_2 ++ []
def dkwX14_sum_1 : List UInt8 := [42, 182, 0, 42, 183, 0, 51, 76, 167, 255, 229, 42, 180, 0, 29, 16, 45, 182, 0, 45, 153, 0, 21]
abbrev dktX14_sum_1 : List UInt8 := dkwX14_sum_1 ++ dktX14_sum_2
def dkwX14_sum_0 : List UInt8 := [42, 182, 0, 42, 76, 42, 180, 0, 29, 16, 43, 182, 0, 45, 153, 0, 21, 187, 0, 49, 89, 16, 43, 43]
abbrev dktX14_sum_0 : List UInt8 := dkwX14_sum_0 ++ dktX14_sum_1
theorem dksX14_sum_0 : cX14_sum.data.toList.drop 0 = dktX14_sum_0 := by decide +kernel
theorem dksX14_sum_1 : cX14_sum.data.toList.drop 24 = dktX14_sum_1 := dk_seg dksX14_sum_0 24 rfl rfl
theorem dksX14_sum_2 : cX14_sum.data.toList.drop 47 = dktX14_sum_2 := dk_seg dksX14_sum_1 23 rfl rfl
theorem dX14_sum_0 : decode cX14_sum 0 = .ok (.aload_n 0, 1) := dk_42 (dk_at dksX14_sum_0 0 rfl rfl)
theorem dX14_sum_1 : decode cX14_sum 1 = .ok (.invokevirtual 42, 3) := dk_182 0 42 (dk_at dksX14_sum_0 1 rfl rfl)
theorem dX14_sum_4 : decode cX14_sum 4 = .ok (.astore_n 1, 1) := dk_76 (dk_at dksX14_sum_0 4 rfl rfl)
theorem dX14_sum_5 : decode cX14_sum 5 = .ok (.aload_n 0, 1) := dk_42 (dk_at dksX14_sum_0 5 rfl rfl)
theorem dX14_sum_6 : decode cX14_sum 6 = .ok (.getfield 29, 3) := dk_180 0 29 (dk_at dksX14_sum_0 6 rfl rfl)
theorem dX14_sum_9 : decode cX14_sum 9 = .ok (.bipush 43, 2) := dk_16 43 (dk_at dksX14_sum_0 9 rfl rfl)
theorem dX14_sum_11 : decode cX14_sum 11 = .ok (.invokevirtual 45, 3) := dk_182 0 45 (dk_at dksX14_sum_0 11 rfl rfl)
theorem dX14_sum_14 : decode cX14_sum 14 = .ok (.ifCond .eq 21, 3) := dk_153 0 21 (dk_at dksX14_sum_0 14 rfl rfl)
theorem dX14_sum_17 : decode cX14_sum 17 = .ok (.new 49, 3) := dk_187 0 49 (dk_at dksX14_sum_0 17 rfl rfl)
theorem dX14_sum_20 : decode cX14_sum 20 = .ok (.dup, 1) := dk_89 (dk_at dksX14_sum_0 20 rfl rfl)
theorem dX14_sum_21 : decode cX14_sum 21 = .ok (.bipush 43, 2) := dk_16 43 (dk_at dksX14_sum_0 21 rfl rfl)
theorem dX14_sum_23 : decode cX14_sum 23 = .ok (.aload_n 1, 1) := dk_43 (dk_at dksX14_sum_0 23 rfl rfl)
theorem dX14_sum_24 : decode cX14_sum 24 = .ok (.aload_n 0, 1) := dk_42 (dk_at dksX14_sum_1 0 rfl rfl)
theorem dX14_sum_25 : decode cX14_sum 25 = .ok (.invokevirtual 42, 3) := dk_182 0 42 (dk_at dksX14_sum_1 1 rfl rfl)
theorem dX14_sum_28 : decode cX14_sum 28 = .ok (.invokespecial 51, 3) := dk_183 0 51 (dk_at dksX14_sum_1 4 rfl rfl)
theorem dX14_sum_31 : decode cX14_sum 31 = .ok (.astore_n 1, 1) := dk_76 (dk_at dksX14_sum_1 7 rfl rfl)
theorem dX14_sum_32 : decode cX14_sum 32 = .ok (.goto (-27), 3) := dk_167 255 229 (dk_at dksX14_sum_1 8 rfl rfl)
theorem dX14_sum_35 : decode cX14_sum 35 = .ok (.aload_n 0, 1) := dk_42 (dk_at dksX14_sum_1 11 rfl rfl)
theorem dX14_sum_36 : decode cX14_sum 36 = .ok (.getfield 29, 3) := dk_180 0 29 (dk_at dksX14_sum_1 12 rfl rfl)
theorem dX14_sum_39 : decode cX14_sum 39 = .ok (.bipush 45, 2) := dk_16 45 (dk_at dksX14_sum_1 15 rfl rfl)
theorem dX14_sum_41 : decode cX14_sum 41 = .ok (.invokevirtual 45, 3) := dk_182 0 45 (dk_at dksX14_sum_1 17 rfl rfl)
theorem dX14_sum_44 : decode cX14_sum 44 = .ok (.ifCond .eq 21, 3) := dk_153 0 21 (dk_at dksX14_sum_1 20 rfl rfl)
theorem dX14_sum_47 : decode cX14_sum 47 = .ok (.new 49, 3) := dk_187 0 49 (dk_at dksX14_sum_2 0 rfl rfl)
theorem dX14_sum_50 : decode cX14_sum 50 = .ok (.dup, 1) := dk_89 (dk_at dksX14_sum_2 3 rfl rfl)
theorem dX14_sum_51 : decode cX14_sum 51 = .ok (.bipush 45, 2) := dk_16 45 (dk_at dksX14_sum_2 4 rfl rfl)
theorem dX14_sum_53 : decode cX14_sum 53 = .ok (.aload_n 1, 1) := dk_43 (dk_at dksX14_sum_2 6 rfl rfl)
theorem dX14_sum_54 : decode cX14_sum 54 = .ok (.aload_n 0, 1) := dk_42 (dk_at dksX14_sum_2 7 rfl rfl)
theorem dX14_sum_55 : decode cX14_sum 55 = .ok (.invokevirtual 42, 3) := dk_182 0 42 (dk_at dksX14_sum_2 8 rfl rfl)
theorem dX14_sum_58 : decode cX14_sum 58 = .ok (.invokespecial 51, 3) := dk_183 0 51 (dk_at dksX14_sum_2 11 rfl rfl)
theorem dX14_sum_61 : decode cX14_sum 61 = .ok (.astore_n 1, 1) := dk_76 (dk_at dksX14_sum_2 14 rfl rfl)
theorem dX14_sum_62 : decode cX14_sum 62 = .ok (.goto (-57), 3) := dk_167 255 199 (dk_at dksX14_sum_2 15 rfl rfl)
theorem dX14_sum_65 : decode cX14_sum 65 = .ok (.aload_n 1, 1) := dk_43 (dk_at dksX14_sum_2 18 rfl rfl)
theorem dX14_sum_66 : decode cX14_sum 66 = .ok (.areturn, 1) := dk_176 (dk_at dksX14_sum_2 19 rfl rfl)
abbrev cX14_product : ByteArray := prog_5_method_4_code
def yX14_product : MethodName := ⟨RX14, "product", "()LRainWheel$Term;"⟩
def dkwX14_product_2 : List UInt8 := [187, 0, 49, 89, 16, 47, 43, 42, 182, 0, 54, 183, 0, 51, 76, 167, 255, 199, 43, 176]
abbrev dktX14_product_2 : List UInt8 := dkwX14_product_2 ++ []
def dkwX14_product_1 : List UInt8 := [42, 182, 0, 54, 183, 0, 51, 76, 167, 255, 229, 42, 180, 0, 29, 16, 47, 182, 0, 45, 153, 0, 21]
abbrev dktX14_product_1 : List UInt8 := dkwX14_product_1 ++ dktX14_product_2
def dkwX14_product_0 : List UInt8 := [42, 182, 0, 54, 76, 42, 180, 0, 29, 16, 42, 182, 0, 45, 153, 0, 21, 187, 0, 49, 89, 16, 42, 43]
abbrev dktX14_product_0 : List UInt8 := dkwX14_product_0 ++ dktX14_product_1
theorem dksX14_product_0 : cX14_product.data.toList.drop 0 = dktX14_product_0 := by decide +kernel
theorem dksX14_product_1 : cX14_product.data.toList.drop 24 = dktX14_product_1 := dk_seg dksX14_product_0 24 rfl rfl
theorem dksX14_product_2 : cX14_product.data.toList.drop 47 = dktX14_product_2 := dk_seg dksX14_product_1 23 rfl rfl
theorem dX14_product_0 : decode cX14_product 0 = .ok (.aload_n 0, 1) := dk_42 (dk_at dksX14_product_0 0 rfl rfl)
theorem dX14_product_1 : decode cX14_product 1 = .ok (.invokevirtual 54, 3) := dk_182 0 54 (dk_at dksX14_product_0 1 rfl rfl)
theorem dX14_product_4 : decode cX14_product 4 = .ok (.astore_n 1, 1) := dk_76 (dk_at dksX14_product_0 4 rfl rfl)
theorem dX14_product_5 : decode cX14_product 5 = .ok (.aload_n 0, 1) := dk_42 (dk_at dksX14_product_0 5 rfl rfl)
theorem dX14_product_6 : decode cX14_product 6 = .ok (.getfield 29, 3) := dk_180 0 29 (dk_at dksX14_product_0 6 rfl rfl)
theorem dX14_product_9 : decode cX14_product 9 = .ok (.bipush 42, 2) := dk_16 42 (dk_at dksX14_product_0 9 rfl rfl)
theorem dX14_product_11 : decode cX14_product 11 = .ok (.invokevirtual 45, 3) := dk_182 0 45 (dk_at dksX14_product_0 11 rfl rfl)
theorem dX14_product_14 : decode cX14_product 14 = .ok (.ifCond .eq 21, 3) := dk_153 0 21 (dk_at dksX14_product_0 14 rfl rfl)
theorem dX14_product_17 : decode cX14_product 17 = .ok (.new 49, 3) := dk_187 0 49 (dk_at dksX14_product_0 17 rfl rfl)
theorem dX14_product_20 : decode cX14_product 20 = .ok (.dup, 1) := dk_89 (dk_at dksX14_product_0 20 rfl rfl)
theorem dX14_product_21 : decode cX14_product 21 = .ok (.bipush 42, 2) := dk_16 42 (dk_at dksX14_product_0 21 rfl rfl)
theorem dX14_product_23 : decode cX14_product 23 = .ok (.aload_n 1, 1) := dk_43 (dk_at dksX14_product_0 23 rfl rfl)
theorem dX14_product_24 : decode cX14_product 24 = .ok (.aload_n 0, 1) := dk_42 (dk_at dksX14_product_1 0 rfl rfl)
theorem dX14_product_25 : decode cX14_product 25 = .ok (.invokevirtual 54, 3) := dk_182 0 54 (dk_at dksX14_product_1 1 rfl rfl)
theorem dX14_product_28 : decode cX14_product 28 = .ok (.invokespecial 51, 3) := dk_183 0 51 (dk_at dksX14_product_1 4 rfl rfl)
theorem dX14_product_31 : decode cX14_product 31 = .ok (.astore_n 1, 1) := dk_76 (dk_at dksX14_product_1 7 rfl rfl)
theorem dX14_product_32 : decode cX14_product 32 = .ok (.goto (-27), 3) := dk_167 255 229 (dk_at dksX14_product_1 8 rfl rfl)
theorem dX14_product_35 : decode cX14_product 35 = .ok (.aload_n 0, 1) := dk_42 (dk_at dksX14_product_1 11 rfl rfl)
theorem dX14_product_36 : decode cX14_product 36 = .ok (.getfield 29, 3) := dk_180 0 29 (dk_at dksX14_product_1 12 rfl rfl)
theorem dX14_product_39 : decode cX14_product 39 = .ok (.bipush 47, 2) := dk_16 47 (dk_at dksX14_product_1 15 rfl rfl)
theorem dX14_product_41 : decode cX14_product 41 = .ok (.invokevirtual 45, 3) := dk_182 0 45 (dk_at dksX14_product_1 17 rfl rfl)
theorem dX14_product_44 : decode cX14_product 44 = .ok (.ifCond .eq 21, 3) := dk_153 0 21 (dk_at dksX14_product_1 20 rfl rfl)
theorem dX14_product_47 : decode cX14_product 47 = .ok (.new 49, 3) := dk_187 0 49 (dk_at dksX14_product_2 0 rfl rfl)
theorem dX14_product_50 : decode cX14_product 50 = .ok (.dup, 1) := dk_89 (dk_at dksX14_product_2 3 rfl rfl)
theorem dX14_product_51 : decode cX14_product 51 = .ok (.bipush 47, 2) := dk_16 47 (dk_at dksX14_product_2 4 rfl rfl)
theorem dX14_product_53 : decode cX14_product 53 = .ok (.aload_n 1, 1) := dk_43 (dk_at dksX14_product_2 6 rfl rfl)
theorem dX14_product_54 : decode cX14_product 54 = .ok (.aload_n 0, 1) := dk_42 (dk_at dksX14_product_2 7 rfl rfl)
theorem dX14_product_55 : decode cX14_product 55 = .ok (.invokevirtual 54, 3) := dk_182 0 54 (dk_at dksX14_product_2 8 rfl rfl)
theorem dX14_product_58 : decode cX14_product 58 = .ok (.invokespecial 51, 3) := dk_183 0 51 (dk_at dksX14_product_2 11 rfl rfl)
theorem dX14_product_61 : decode cX14_product 61 = .ok (.astore_n 1, 1) := dk_76 (dk_at dksX14_product_2 14 rfl rfl)
theorem dX14_product_62 : decode cX14_product 62 = .ok (.goto (-57), 3) := dk_167 255 199 (dk_at dksX14_product_2 15 rfl rfl)
theorem dX14_product_65 : decode cX14_product 65 = .ok (.aload_n 1, 1) := dk_43 (dk_at dksX14_product_2 18 rfl rfl)
theorem dX14_product_66 : decode cX14_product 66 = .ok (.areturn, 1) := dk_176 (dk_at dksX14_product_2 19 rfl rfl)
abbrev cX14_value : ByteArray := prog_5_method_5_code
def yX14_value : MethodName := ⟨RX14, "value", "()LRainWheel$Term;"⟩
def dkwX14_value_8 : List UInt8 := [182, 0, 88, 183, 0, 92, 176, 42, 180, 0, 29, 182, 0, 68, 187, 0, 95, 89, 28, 183, 0, 97, 176]
abbrev dktX14_value_8 : List UInt8 := dkwX14_value_8 ++ []
def dkwX14_value_7 : List UInt8 := [180, 0, 23, 182, 0, 82, 61, 28, 2, 160, 0, 22, 187, 0, 86, 89, 42, 180, 0, 29, 3, 17, 3, 231]
abbrev dktX14_value_7 : List UInt8 := dkwX14_value_7 ++ dktX14_value_8
def dkwX14_value_6 : List UInt8 := [42, 180, 0, 29, 16, 41, 182, 0, 71, 42, 180, 0, 29, 182, 0, 75, 44, 176, 42, 180, 0, 29, 42]
abbrev dktX14_value_6 : List UInt8 := dkwX14_value_6 ++ dktX14_value_7
def dkwX14_value_5 : List UInt8 := [160, 0, 42, 42, 180, 0, 29, 182, 0, 65, 42, 180, 0, 29, 16, 40, 182, 0, 71, 42, 182, 0, 33, 77]
abbrev dktX14_value_5 : List UInt8 := dkwX14_value_5 ++ dktX14_value_6
def dkwX14_value_4 : List UInt8 := [16, 91, 167, 0, 5, 16, 93, 44, 45, 183, 0, 51, 176, 42, 180, 0, 29, 182, 0, 78, 16, 40]
abbrev dktX14_value_4 : List UInt8 := dkwX14_value_4 ++ dktX14_value_5
def dkwX14_value_3 : List UInt8 := [180, 0, 29, 16, 93, 182, 0, 71, 42, 180, 0, 29, 182, 0, 75, 187, 0, 49, 89, 27, 153, 0, 8]
abbrev dktX14_value_3 : List UInt8 := dkwX14_value_3 ++ dktX14_value_4
def dkwX14_value_2 : List UInt8 := [182, 0, 71, 42, 182, 0, 33, 77, 42, 180, 0, 29, 16, 44, 182, 0, 71, 42, 182, 0, 33, 78, 42]
abbrev dktX14_value_2 : List UInt8 := dkwX14_value_2 ++ dktX14_value_3
def dkwX14_value_1 : List UInt8 := [153, 0, 82, 42, 180, 0, 29, 182, 0, 65, 42, 180, 0, 29, 182, 0, 68, 42, 180, 0, 29, 16, 91]
abbrev dktX14_value_1 : List UInt8 := dkwX14_value_1 ++ dktX14_value_2
def dkwX14_value_0 : List UInt8 := [42, 180, 0, 29, 18, 57, 182, 0, 59, 60, 27, 154, 0, 15, 42, 180, 0, 29, 18, 63, 182, 0, 59]
abbrev dktX14_value_0 : List UInt8 := dkwX14_value_0 ++ dktX14_value_1
theorem dksX14_value_0 : cX14_value.data.toList.drop 0 = dktX14_value_0 := by decide +kernel
theorem dksX14_value_1 : cX14_value.data.toList.drop 23 = dktX14_value_1 := dk_seg dksX14_value_0 23 rfl rfl
theorem dksX14_value_2 : cX14_value.data.toList.drop 46 = dktX14_value_2 := dk_seg dksX14_value_1 23 rfl rfl
theorem dksX14_value_3 : cX14_value.data.toList.drop 69 = dktX14_value_3 := dk_seg dksX14_value_2 23 rfl rfl
theorem dksX14_value_4 : cX14_value.data.toList.drop 92 = dktX14_value_4 := dk_seg dksX14_value_3 23 rfl rfl
theorem dksX14_value_5 : cX14_value.data.toList.drop 114 = dktX14_value_5 := dk_seg dksX14_value_4 22 rfl rfl
theorem dksX14_value_6 : cX14_value.data.toList.drop 138 = dktX14_value_6 := dk_seg dksX14_value_5 24 rfl rfl
theorem dksX14_value_7 : cX14_value.data.toList.drop 161 = dktX14_value_7 := dk_seg dksX14_value_6 23 rfl rfl
theorem dksX14_value_8 : cX14_value.data.toList.drop 185 = dktX14_value_8 := dk_seg dksX14_value_7 24 rfl rfl
theorem dX14_value_0 : decode cX14_value 0 = .ok (.aload_n 0, 1) := dk_42 (dk_at dksX14_value_0 0 rfl rfl)
theorem dX14_value_1 : decode cX14_value 1 = .ok (.getfield 29, 3) := dk_180 0 29 (dk_at dksX14_value_0 1 rfl rfl)
theorem dX14_value_4 : decode cX14_value 4 = .ok (.ldc 57, 2) := dk_18 57 (dk_at dksX14_value_0 4 rfl rfl)
theorem dX14_value_6 : decode cX14_value 6 = .ok (.invokevirtual 59, 3) := dk_182 0 59 (dk_at dksX14_value_0 6 rfl rfl)
theorem dX14_value_9 : decode cX14_value 9 = .ok (.istore_n 1, 1) := dk_60 (dk_at dksX14_value_0 9 rfl rfl)
theorem dX14_value_10 : decode cX14_value 10 = .ok (.iload_n 1, 1) := dk_27 (dk_at dksX14_value_0 10 rfl rfl)
theorem dX14_value_11 : decode cX14_value 11 = .ok (.ifCond .ne 15, 3) := dk_154 0 15 (dk_at dksX14_value_0 11 rfl rfl)
theorem dX14_value_14 : decode cX14_value 14 = .ok (.aload_n 0, 1) := dk_42 (dk_at dksX14_value_0 14 rfl rfl)
theorem dX14_value_15 : decode cX14_value 15 = .ok (.getfield 29, 3) := dk_180 0 29 (dk_at dksX14_value_0 15 rfl rfl)
theorem dX14_value_18 : decode cX14_value 18 = .ok (.ldc 63, 2) := dk_18 63 (dk_at dksX14_value_0 18 rfl rfl)
theorem dX14_value_20 : decode cX14_value 20 = .ok (.invokevirtual 59, 3) := dk_182 0 59 (dk_at dksX14_value_0 20 rfl rfl)
theorem dX14_value_23 : decode cX14_value 23 = .ok (.ifCond .eq 82, 3) := dk_153 0 82 (dk_at dksX14_value_1 0 rfl rfl)
theorem dX14_value_26 : decode cX14_value 26 = .ok (.aload_n 0, 1) := dk_42 (dk_at dksX14_value_1 3 rfl rfl)
theorem dX14_value_27 : decode cX14_value 27 = .ok (.getfield 29, 3) := dk_180 0 29 (dk_at dksX14_value_1 4 rfl rfl)
theorem dX14_value_30 : decode cX14_value 30 = .ok (.invokevirtual 65, 3) := dk_182 0 65 (dk_at dksX14_value_1 7 rfl rfl)
theorem dX14_value_33 : decode cX14_value 33 = .ok (.aload_n 0, 1) := dk_42 (dk_at dksX14_value_1 10 rfl rfl)
theorem dX14_value_34 : decode cX14_value 34 = .ok (.getfield 29, 3) := dk_180 0 29 (dk_at dksX14_value_1 11 rfl rfl)
theorem dX14_value_37 : decode cX14_value 37 = .ok (.invokevirtual 68, 3) := dk_182 0 68 (dk_at dksX14_value_1 14 rfl rfl)
theorem dX14_value_40 : decode cX14_value 40 = .ok (.aload_n 0, 1) := dk_42 (dk_at dksX14_value_1 17 rfl rfl)
theorem dX14_value_41 : decode cX14_value 41 = .ok (.getfield 29, 3) := dk_180 0 29 (dk_at dksX14_value_1 18 rfl rfl)
theorem dX14_value_44 : decode cX14_value 44 = .ok (.bipush 91, 2) := dk_16 91 (dk_at dksX14_value_1 21 rfl rfl)
theorem dX14_value_46 : decode cX14_value 46 = .ok (.invokevirtual 71, 3) := dk_182 0 71 (dk_at dksX14_value_2 0 rfl rfl)
theorem dX14_value_49 : decode cX14_value 49 = .ok (.aload_n 0, 1) := dk_42 (dk_at dksX14_value_2 3 rfl rfl)
theorem dX14_value_50 : decode cX14_value 50 = .ok (.invokevirtual 33, 3) := dk_182 0 33 (dk_at dksX14_value_2 4 rfl rfl)
theorem dX14_value_53 : decode cX14_value 53 = .ok (.astore_n 2, 1) := dk_77 (dk_at dksX14_value_2 7 rfl rfl)
theorem dX14_value_54 : decode cX14_value 54 = .ok (.aload_n 0, 1) := dk_42 (dk_at dksX14_value_2 8 rfl rfl)
theorem dX14_value_55 : decode cX14_value 55 = .ok (.getfield 29, 3) := dk_180 0 29 (dk_at dksX14_value_2 9 rfl rfl)
theorem dX14_value_58 : decode cX14_value 58 = .ok (.bipush 44, 2) := dk_16 44 (dk_at dksX14_value_2 12 rfl rfl)
theorem dX14_value_60 : decode cX14_value 60 = .ok (.invokevirtual 71, 3) := dk_182 0 71 (dk_at dksX14_value_2 14 rfl rfl)
theorem dX14_value_63 : decode cX14_value 63 = .ok (.aload_n 0, 1) := dk_42 (dk_at dksX14_value_2 17 rfl rfl)
theorem dX14_value_64 : decode cX14_value 64 = .ok (.invokevirtual 33, 3) := dk_182 0 33 (dk_at dksX14_value_2 18 rfl rfl)
theorem dX14_value_67 : decode cX14_value 67 = .ok (.astore_n 3, 1) := dk_78 (dk_at dksX14_value_2 21 rfl rfl)
theorem dX14_value_68 : decode cX14_value 68 = .ok (.aload_n 0, 1) := dk_42 (dk_at dksX14_value_2 22 rfl rfl)
theorem dX14_value_69 : decode cX14_value 69 = .ok (.getfield 29, 3) := dk_180 0 29 (dk_at dksX14_value_3 0 rfl rfl)
theorem dX14_value_72 : decode cX14_value 72 = .ok (.bipush 93, 2) := dk_16 93 (dk_at dksX14_value_3 3 rfl rfl)
theorem dX14_value_74 : decode cX14_value 74 = .ok (.invokevirtual 71, 3) := dk_182 0 71 (dk_at dksX14_value_3 5 rfl rfl)
theorem dX14_value_77 : decode cX14_value 77 = .ok (.aload_n 0, 1) := dk_42 (dk_at dksX14_value_3 8 rfl rfl)
theorem dX14_value_78 : decode cX14_value 78 = .ok (.getfield 29, 3) := dk_180 0 29 (dk_at dksX14_value_3 9 rfl rfl)
theorem dX14_value_81 : decode cX14_value 81 = .ok (.invokevirtual 75, 3) := dk_182 0 75 (dk_at dksX14_value_3 12 rfl rfl)
theorem dX14_value_84 : decode cX14_value 84 = .ok (.new 49, 3) := dk_187 0 49 (dk_at dksX14_value_3 15 rfl rfl)
theorem dX14_value_87 : decode cX14_value 87 = .ok (.dup, 1) := dk_89 (dk_at dksX14_value_3 18 rfl rfl)
theorem dX14_value_88 : decode cX14_value 88 = .ok (.iload_n 1, 1) := dk_27 (dk_at dksX14_value_3 19 rfl rfl)
theorem dX14_value_89 : decode cX14_value 89 = .ok (.ifCond .eq 8, 3) := dk_153 0 8 (dk_at dksX14_value_3 20 rfl rfl)
theorem dX14_value_92 : decode cX14_value 92 = .ok (.bipush 91, 2) := dk_16 91 (dk_at dksX14_value_4 0 rfl rfl)
theorem dX14_value_94 : decode cX14_value 94 = .ok (.goto 5, 3) := dk_167 0 5 (dk_at dksX14_value_4 2 rfl rfl)
theorem dX14_value_97 : decode cX14_value 97 = .ok (.bipush 93, 2) := dk_16 93 (dk_at dksX14_value_4 5 rfl rfl)
theorem dX14_value_99 : decode cX14_value 99 = .ok (.aload_n 2, 1) := dk_44 (dk_at dksX14_value_4 7 rfl rfl)
theorem dX14_value_100 : decode cX14_value 100 = .ok (.aload_n 3, 1) := dk_45 (dk_at dksX14_value_4 8 rfl rfl)
theorem dX14_value_101 : decode cX14_value 101 = .ok (.invokespecial 51, 3) := dk_183 0 51 (dk_at dksX14_value_4 9 rfl rfl)
theorem dX14_value_104 : decode cX14_value 104 = .ok (.areturn, 1) := dk_176 (dk_at dksX14_value_4 12 rfl rfl)
theorem dX14_value_105 : decode cX14_value 105 = .ok (.aload_n 0, 1) := dk_42 (dk_at dksX14_value_4 13 rfl rfl)
theorem dX14_value_106 : decode cX14_value 106 = .ok (.getfield 29, 3) := dk_180 0 29 (dk_at dksX14_value_4 14 rfl rfl)
theorem dX14_value_109 : decode cX14_value 109 = .ok (.invokevirtual 78, 3) := dk_182 0 78 (dk_at dksX14_value_4 17 rfl rfl)
theorem dX14_value_112 : decode cX14_value 112 = .ok (.bipush 40, 2) := dk_16 40 (dk_at dksX14_value_4 20 rfl rfl)
theorem dX14_value_114 : decode cX14_value 114 = .ok (.if_icmp .ne 42, 3) := dk_160 0 42 (dk_at dksX14_value_5 0 rfl rfl)
theorem dX14_value_117 : decode cX14_value 117 = .ok (.aload_n 0, 1) := dk_42 (dk_at dksX14_value_5 3 rfl rfl)
theorem dX14_value_118 : decode cX14_value 118 = .ok (.getfield 29, 3) := dk_180 0 29 (dk_at dksX14_value_5 4 rfl rfl)
theorem dX14_value_121 : decode cX14_value 121 = .ok (.invokevirtual 65, 3) := dk_182 0 65 (dk_at dksX14_value_5 7 rfl rfl)
theorem dX14_value_124 : decode cX14_value 124 = .ok (.aload_n 0, 1) := dk_42 (dk_at dksX14_value_5 10 rfl rfl)
theorem dX14_value_125 : decode cX14_value 125 = .ok (.getfield 29, 3) := dk_180 0 29 (dk_at dksX14_value_5 11 rfl rfl)
theorem dX14_value_128 : decode cX14_value 128 = .ok (.bipush 40, 2) := dk_16 40 (dk_at dksX14_value_5 14 rfl rfl)
theorem dX14_value_130 : decode cX14_value 130 = .ok (.invokevirtual 71, 3) := dk_182 0 71 (dk_at dksX14_value_5 16 rfl rfl)
theorem dX14_value_133 : decode cX14_value 133 = .ok (.aload_n 0, 1) := dk_42 (dk_at dksX14_value_5 19 rfl rfl)
theorem dX14_value_134 : decode cX14_value 134 = .ok (.invokevirtual 33, 3) := dk_182 0 33 (dk_at dksX14_value_5 20 rfl rfl)
theorem dX14_value_137 : decode cX14_value 137 = .ok (.astore_n 2, 1) := dk_77 (dk_at dksX14_value_5 23 rfl rfl)
theorem dX14_value_138 : decode cX14_value 138 = .ok (.aload_n 0, 1) := dk_42 (dk_at dksX14_value_6 0 rfl rfl)
theorem dX14_value_139 : decode cX14_value 139 = .ok (.getfield 29, 3) := dk_180 0 29 (dk_at dksX14_value_6 1 rfl rfl)
theorem dX14_value_142 : decode cX14_value 142 = .ok (.bipush 41, 2) := dk_16 41 (dk_at dksX14_value_6 4 rfl rfl)
theorem dX14_value_144 : decode cX14_value 144 = .ok (.invokevirtual 71, 3) := dk_182 0 71 (dk_at dksX14_value_6 6 rfl rfl)
theorem dX14_value_147 : decode cX14_value 147 = .ok (.aload_n 0, 1) := dk_42 (dk_at dksX14_value_6 9 rfl rfl)
theorem dX14_value_148 : decode cX14_value 148 = .ok (.getfield 29, 3) := dk_180 0 29 (dk_at dksX14_value_6 10 rfl rfl)
theorem dX14_value_151 : decode cX14_value 151 = .ok (.invokevirtual 75, 3) := dk_182 0 75 (dk_at dksX14_value_6 13 rfl rfl)
theorem dX14_value_154 : decode cX14_value 154 = .ok (.aload_n 2, 1) := dk_44 (dk_at dksX14_value_6 16 rfl rfl)
theorem dX14_value_155 : decode cX14_value 155 = .ok (.areturn, 1) := dk_176 (dk_at dksX14_value_6 17 rfl rfl)
theorem dX14_value_156 : decode cX14_value 156 = .ok (.aload_n 0, 1) := dk_42 (dk_at dksX14_value_6 18 rfl rfl)
theorem dX14_value_157 : decode cX14_value 157 = .ok (.getfield 29, 3) := dk_180 0 29 (dk_at dksX14_value_6 19 rfl rfl)
theorem dX14_value_160 : decode cX14_value 160 = .ok (.aload_n 0, 1) := dk_42 (dk_at dksX14_value_6 22 rfl rfl)
theorem dX14_value_161 : decode cX14_value 161 = .ok (.getfield 23, 3) := dk_180 0 23 (dk_at dksX14_value_7 0 rfl rfl)
theorem dX14_value_164 : decode cX14_value 164 = .ok (.invokevirtual 82, 3) := dk_182 0 82 (dk_at dksX14_value_7 3 rfl rfl)
theorem dX14_value_167 : decode cX14_value 167 = .ok (.istore_n 2, 1) := dk_61 (dk_at dksX14_value_7 6 rfl rfl)
theorem dX14_value_168 : decode cX14_value 168 = .ok (.iload_n 2, 1) := dk_28 (dk_at dksX14_value_7 7 rfl rfl)
theorem dX14_value_169 : decode cX14_value 169 = .ok (.iconst (-1), 1) := dk_2 (dk_at dksX14_value_7 8 rfl rfl)
theorem dX14_value_170 : decode cX14_value 170 = .ok (.if_icmp .ne 22, 3) := dk_160 0 22 (dk_at dksX14_value_7 9 rfl rfl)
theorem dX14_value_173 : decode cX14_value 173 = .ok (.new 86, 3) := dk_187 0 86 (dk_at dksX14_value_7 12 rfl rfl)
theorem dX14_value_176 : decode cX14_value 176 = .ok (.dup, 1) := dk_89 (dk_at dksX14_value_7 15 rfl rfl)
theorem dX14_value_177 : decode cX14_value 177 = .ok (.aload_n 0, 1) := dk_42 (dk_at dksX14_value_7 16 rfl rfl)
theorem dX14_value_178 : decode cX14_value 178 = .ok (.getfield 29, 3) := dk_180 0 29 (dk_at dksX14_value_7 17 rfl rfl)
theorem dX14_value_181 : decode cX14_value 181 = .ok (.iconst 0, 1) := dk_3 (dk_at dksX14_value_7 20 rfl rfl)
theorem dX14_value_182 : decode cX14_value 182 = .ok (.sipush 999, 3) := dk_17 3 231 (dk_at dksX14_value_7 21 rfl rfl)
theorem dX14_value_185 : decode cX14_value 185 = .ok (.invokevirtual 88, 3) := dk_182 0 88 (dk_at dksX14_value_8 0 rfl rfl)
theorem dX14_value_188 : decode cX14_value 188 = .ok (.invokespecial 92, 3) := dk_183 0 92 (dk_at dksX14_value_8 3 rfl rfl)
theorem dX14_value_191 : decode cX14_value 191 = .ok (.areturn, 1) := dk_176 (dk_at dksX14_value_8 6 rfl rfl)
theorem dX14_value_192 : decode cX14_value 192 = .ok (.aload_n 0, 1) := dk_42 (dk_at dksX14_value_8 7 rfl rfl)
theorem dX14_value_193 : decode cX14_value 193 = .ok (.getfield 29, 3) := dk_180 0 29 (dk_at dksX14_value_8 8 rfl rfl)
theorem dX14_value_196 : decode cX14_value 196 = .ok (.invokevirtual 68, 3) := dk_182 0 68 (dk_at dksX14_value_8 11 rfl rfl)
theorem dX14_value_199 : decode cX14_value 199 = .ok (.new 95, 3) := dk_187 0 95 (dk_at dksX14_value_8 14 rfl rfl)
theorem dX14_value_202 : decode cX14_value 202 = .ok (.dup, 1) := dk_89 (dk_at dksX14_value_8 17 rfl rfl)
theorem dX14_value_203 : decode cX14_value 203 = .ok (.iload_n 2, 1) := dk_28 (dk_at dksX14_value_8 18 rfl rfl)
theorem dX14_value_204 : decode cX14_value 204 = .ok (.invokespecial 97, 3) := dk_183 0 97 (dk_at dksX14_value_8 19 rfl rfl)
theorem dX14_value_207 : decode cX14_value 207 = .ok (.areturn, 1) := dk_176 (dk_at dksX14_value_8 22 rfl rfl)
theorem q118 : (Jvm.Cond.initialized "RainWheel$LawReader") ∈ lw_all := lw_g (lw_at lw_m1 23 rfl) rfl
theorem q999 : (Jvm.Cond.instantiable "RainWheel$LawReader" (2 : Nat)) ∈ lw_all := lw_g (lw_at lw_m4 184 rfl) rfl
theorem q1001 : (Jvm.Cond.instanceMethod ({ cls := "RainWheel$LawReader", name := "<init>", desc := "(LRainWheel$Reader;)V" } : Jvm.MethodName)) ∈ lw_all := lw_g (lw_at lw_m4 186 rfl) rfl
theorem q1002 : (Jvm.Cond.code ({ cls := "RainWheel$LawReader", name := "<init>", desc := "(LRainWheel$Reader;)V" } : Jvm.MethodName) prog_5_method_1_code (2 : Nat) (Option.none : Option Jvm.ClassFile.FieldType)) ∈ lw_all := lw_g (lw_at lw_m4 187 rfl) rfl
theorem q1003 : (Jvm.Cond.methodLink "RainWheel$LawReader" (3 : Nat) ({ cls := "java/lang/Object", name := "<init>", desc := "()V" } : Jvm.MethodName)) ∈ lw_all := lw_g (lw_at lw_m4 188 rfl) rfl
theorem q1004 : (Jvm.Cond.classLink "RainWheel$LawReader" (9 : Nat) "java/lang/String") ∈ lw_all := lw_g (lw_at lw_m4 189 rfl) rfl
theorem q1005 : (Jvm.Cond.stringRef "RainWheel$LawReader" (11 : Nat) "minutes") ∈ lw_tbl := lw_at lw_m4 190 rfl
theorem q1006 : (Jvm.Cond.stringRef "RainWheel$LawReader" (13 : Nat) "hands") ∈ lw_tbl := lw_at lw_m4 191 rfl
theorem q1007 : (Jvm.Cond.stringRef "RainWheel$LawReader" (15 : Nat) "strong") ∈ lw_tbl := lw_at lw_m4 192 rfl
theorem q1008 : (Jvm.Cond.stringRef "RainWheel$LawReader" (17 : Nat) "rain") ∈ lw_tbl := lw_at lw_m4 193 rfl
theorem q1009 : (Jvm.Cond.stringRef "RainWheel$LawReader" (19 : Nat) "minute") ∈ lw_tbl := lw_at lw_m4 194 rfl
theorem q1010 : (Jvm.Cond.stringRef "RainWheel$LawReader" (21 : Nat) "out") ∈ lw_tbl := lw_at lw_m4 195 rfl
theorem q1011 : (Jvm.Cond.fieldLink "RainWheel$LawReader" (23 : Nat) "RainWheel$LawReader" "words" "[Ljava/lang/String;") ∈ lw_all := lw_g (lw_at lw_m4 196 rfl) rfl
theorem q1012 : (Jvm.Cond.fieldLink "RainWheel$LawReader" (29 : Nat) "RainWheel$LawReader" "in" "LRainWheel$Reader;") ∈ lw_all := lw_g (lw_at lw_m4 197 rfl) rfl
theorem q1013 : (Jvm.Cond.laysFinal "RainWheel$LawReader" "RainWheel$LawReader" "words" "[Ljava/lang/String;") ∈ lw_all := lw_g (lw_at lw_m4 198 rfl) rfl
theorem q1014 : (Jvm.Cond.soleField "RainWheel$LawReader" "words") ∈ lw_all := lw_g (lw_at lw_m4 199 rfl) rfl
theorem q1015 : (Jvm.Cond.laysFinal "RainWheel$LawReader" "RainWheel$LawReader" "in" "LRainWheel$Reader;") ∈ lw_all := lw_g (lw_at lw_m4 200 rfl) rfl
theorem q1016 : (Jvm.Cond.soleField "RainWheel$LawReader" "in") ∈ lw_all := lw_g (lw_at lw_m4 201 rfl) rfl
theorem q1017 : (Jvm.Cond.superclass "RainWheel$LawReader" "java/lang/Object") ∈ lw_all := lw_g (lw_at lw_m4 202 rfl) rfl
theorem q1019 : (Jvm.Cond.instanceMethod ({ cls := "RainWheel$LawReader", name := "reads", desc := "()LRainWheel$Term;" } : Jvm.MethodName)) ∈ lw_all := lw_g (lw_at lw_m4 204 rfl) rfl
theorem q1020 : (Jvm.Cond.selects "RainWheel$LawReader" ({ cls := "RainWheel$LawReader", name := "reads", desc := "()LRainWheel$Term;" } : Jvm.MethodName) ({ cls := "RainWheel$LawReader", name := "reads", desc := "()LRainWheel$Term;" } : Jvm.MethodName)) ∈ lw_all := lw_g (lw_at lw_m4 205 rfl) rfl
theorem q1021 : (Jvm.Cond.code ({ cls := "RainWheel$LawReader", name := "reads", desc := "()LRainWheel$Term;" } : Jvm.MethodName) prog_5_method_2_code (2 : Nat) (Option.some (Jvm.ClassFile.FieldType.object "RainWheel$Term"))) ∈ lw_all := lw_g (lw_at lw_m4 206 rfl) rfl
theorem q1022 : (Jvm.Cond.methodLink "RainWheel$LawReader" (33 : Nat) ({ cls := "RainWheel$LawReader", name := "sum", desc := "()LRainWheel$Term;" } : Jvm.MethodName)) ∈ lw_all := lw_g (lw_at lw_m4 207 rfl) rfl
theorem q1023 : (Jvm.Cond.privateMethod ({ cls := "RainWheel$LawReader", name := "sum", desc := "()LRainWheel$Term;" } : Jvm.MethodName)) ∈ lw_tbl := lw_at lw_m4 208 rfl
theorem q1024 : (Jvm.Cond.instanceMethod ({ cls := "RainWheel$LawReader", name := "sum", desc := "()LRainWheel$Term;" } : Jvm.MethodName)) ∈ lw_all := lw_g (lw_at lw_m4 209 rfl) rfl
theorem q1025 : (Jvm.Cond.code ({ cls := "RainWheel$LawReader", name := "sum", desc := "()LRainWheel$Term;" } : Jvm.MethodName) prog_5_method_3_code (2 : Nat) (Option.some (Jvm.ClassFile.FieldType.object "RainWheel$Term"))) ∈ lw_all := lw_g (lw_at lw_m4 210 rfl) rfl
theorem q1026 : (Jvm.Cond.methodLink "RainWheel$LawReader" (42 : Nat) ({ cls := "RainWheel$LawReader", name := "product", desc := "()LRainWheel$Term;" } : Jvm.MethodName)) ∈ lw_all := lw_g (lw_at lw_m4 211 rfl) rfl
theorem q1027 : (Jvm.Cond.privateMethod ({ cls := "RainWheel$LawReader", name := "product", desc := "()LRainWheel$Term;" } : Jvm.MethodName)) ∈ lw_tbl := lw_at lw_m4 212 rfl
theorem q1028 : (Jvm.Cond.instanceMethod ({ cls := "RainWheel$LawReader", name := "product", desc := "()LRainWheel$Term;" } : Jvm.MethodName)) ∈ lw_all := lw_g (lw_at lw_m4 213 rfl) rfl
theorem q1029 : (Jvm.Cond.code ({ cls := "RainWheel$LawReader", name := "product", desc := "()LRainWheel$Term;" } : Jvm.MethodName) prog_5_method_4_code (2 : Nat) (Option.some (Jvm.ClassFile.FieldType.object "RainWheel$Term"))) ∈ lw_all := lw_g (lw_at lw_m4 214 rfl) rfl
theorem q1030 : (Jvm.Cond.methodLink "RainWheel$LawReader" (54 : Nat) ({ cls := "RainWheel$LawReader", name := "value", desc := "()LRainWheel$Term;" } : Jvm.MethodName)) ∈ lw_all := lw_g (lw_at lw_m4 215 rfl) rfl
theorem q1031 : (Jvm.Cond.privateMethod ({ cls := "RainWheel$LawReader", name := "value", desc := "()LRainWheel$Term;" } : Jvm.MethodName)) ∈ lw_tbl := lw_at lw_m4 216 rfl
theorem q1032 : (Jvm.Cond.instanceMethod ({ cls := "RainWheel$LawReader", name := "value", desc := "()LRainWheel$Term;" } : Jvm.MethodName)) ∈ lw_all := lw_g (lw_at lw_m4 217 rfl) rfl
theorem q1033 : (Jvm.Cond.code ({ cls := "RainWheel$LawReader", name := "value", desc := "()LRainWheel$Term;" } : Jvm.MethodName) prog_5_method_5_code (4 : Nat) (Option.some (Jvm.ClassFile.FieldType.object "RainWheel$Term"))) ∈ lw_all := lw_g (lw_at lw_m4 218 rfl) rfl
theorem q1034 : (Jvm.Cond.stringRef "RainWheel$LawReader" (57 : Nat) "least") ∈ lw_tbl := lw_at lw_m4 219 rfl
theorem q1035 : (Jvm.Cond.methodLink "RainWheel$LawReader" (59 : Nat) ({ cls := "RainWheel$Reader", name := "isWord", desc := "(Ljava/lang/String;)Z" } : Jvm.MethodName)) ∈ lw_all := lw_g (lw_at lw_m4 220 rfl) rfl
theorem q1036 : (Jvm.Cond.stringRef "RainWheel$LawReader" (63 : Nat) "most") ∈ lw_tbl := lw_at lw_m4 221 rfl
theorem q1037 : (Jvm.Cond.methodLink "RainWheel$LawReader" (65 : Nat) ({ cls := "RainWheel$Reader", name := "opens", desc := "()V" } : Jvm.MethodName)) ∈ lw_all := lw_g (lw_at lw_m4 222 rfl) rfl
theorem q1041 : (Jvm.Cond.methodLink "RainWheel$LawReader" (68 : Nat) ({ cls := "RainWheel$Reader", name := "skipsWord", desc := "()V" } : Jvm.MethodName)) ∈ lw_all := lw_g (lw_at lw_m4 226 rfl) rfl
theorem q1042 : (Jvm.Cond.methodLink "RainWheel$LawReader" (71 : Nat) ({ cls := "RainWheel$Reader", name := "sign", desc := "(C)V" } : Jvm.MethodName)) ∈ lw_all := lw_g (lw_at lw_m4 227 rfl) rfl
theorem q1043 : (Jvm.Cond.methodLink "RainWheel$LawReader" (75 : Nat) ({ cls := "RainWheel$Reader", name := "closes", desc := "()V" } : Jvm.MethodName)) ∈ lw_all := lw_g (lw_at lw_m4 228 rfl) rfl
theorem q1047 : (Jvm.Cond.classLink "RainWheel$LawReader" (49 : Nat) "RainWheel$Two") ∈ lw_all := lw_g (lw_at lw_m4 232 rfl) rfl
theorem q1049 : (Jvm.Cond.methodLink "RainWheel$LawReader" (51 : Nat) ({ cls := "RainWheel$Two", name := "<init>", desc := "(CLRainWheel$Term;LRainWheel$Term;)V" } : Jvm.MethodName)) ∈ lw_all := lw_g (lw_at lw_m4 234 rfl) rfl
theorem q1063 : (Jvm.Cond.methodLink "RainWheel$LawReader" (78 : Nat) ({ cls := "RainWheel$Reader", name := "now", desc := "()I" } : Jvm.MethodName)) ∈ lw_all := lw_g (lw_at lw_m5 8 rfl) rfl
theorem q1064 : (Jvm.Cond.methodLink "RainWheel$LawReader" (82 : Nat) ({ cls := "RainWheel$Reader", name := "which", desc := "([Ljava/lang/String;)I" } : Jvm.MethodName)) ∈ lw_all := lw_g (lw_at lw_m5 9 rfl) rfl
theorem q1065 : (Jvm.Cond.classLink "RainWheel$LawReader" (86 : Nat) "RainWheel$Amount") ∈ lw_all := lw_g (lw_at lw_m5 10 rfl) rfl
theorem q1067 : (Jvm.Cond.methodLink "RainWheel$LawReader" (88 : Nat) ({ cls := "RainWheel$Reader", name := "number", desc := "(II)I" } : Jvm.MethodName)) ∈ lw_all := lw_g (lw_at lw_m5 12 rfl) rfl
theorem q1068 : (Jvm.Cond.methodLink "RainWheel$LawReader" (92 : Nat) ({ cls := "RainWheel$Amount", name := "<init>", desc := "(I)V" } : Jvm.MethodName)) ∈ lw_all := lw_g (lw_at lw_m5 13 rfl) rfl
theorem q1076 : (Jvm.Cond.classLink "RainWheel$LawReader" (95 : Nat) "RainWheel$Known") ∈ lw_all := lw_g (lw_at lw_m5 21 rfl) rfl
theorem q1078 : (Jvm.Cond.methodLink "RainWheel$LawReader" (97 : Nat) ({ cls := "RainWheel$Known", name := "<init>", desc := "(I)V" } : Jvm.MethodName)) ∈ lw_all := lw_g (lw_at lw_m5 23 rfl) rfl
theorem q1086 : (Jvm.Cond.methodLink "RainWheel$LawReader" (45 : Nat) ({ cls := "RainWheel$Reader", name := "takesSign", desc := "(C)Z" } : Jvm.MethodName)) ∈ lw_all := lw_g (lw_at lw_m5 31 rfl) rfl
theorem q1090 : (Jvm.Cond.methodLink "RainWheel$LawReader" (37 : Nat) ({ cls := "RainWheel$Reader", name := "ends", desc := "()V" } : Jvm.MethodName)) ∈ lw_all := lw_g (lw_at lw_m5 35 rfl) rfl
theorem q2265 : (Jvm.Cond.castable "RainWheel$LawReader" "java/lang/Object") ∈ lw_tbl := lw_at lw_m10 10 rfl

abbrev cX15_on : ByteArray := prog_15_method_2_code
def yX15_on : MethodName := ⟨RX15, "on", "(LRainWheel$Sight;)I"⟩
def dkwX15_on_4 : List UInt8 := [28, 29, 184, 0, 26, 172, 28, 29, 184, 0, 32, 172]
abbrev dktX15_on_4 : List UInt8 := dkwX15_on_4 ++ []
def dkwX15_on_3 : List UInt8 := [28, 29, 96, 172, 28, 29, 100, 172, 28, 29, 104, 172, 29, 154, 0, 7, 3, 167, 0, 6, 28, 29, 108, 172]
abbrev dktX15_on_3 : List UInt8 := dkwX15_on_3 ++ dktX15_on_4
def dkwX15_on_2 : List UInt8 := [171, 0, 0, 0, 0, 80, 0, 0, 0, 5, 0, 0, 0, 42, 0, 0, 0, 58, 0, 0, 0, 43, 0, 0, 0, 50, 0, 0, 0, 45, 0, 0, 0, 54, 0, 0, 0, 47, 0, 0, 0, 62, 0, 0, 0, 91, 0, 0, 0, 74]
abbrev dktX15_on_2 : List UInt8 := dkwX15_on_2 ++ dktX15_on_3
def dkwX15_on_1 : List UInt8 := [180, 0, 7]
abbrev dktX15_on_1 : List UInt8 := dkwX15_on_1 ++ dktX15_on_2
def dkwX15_on_0 : List UInt8 := [42, 180, 0, 13, 43, 185, 0, 20, 2, 0, 61, 42, 180, 0, 17, 43, 185, 0, 20, 2, 0, 62, 42]
abbrev dktX15_on_0 : List UInt8 := dkwX15_on_0 ++ dktX15_on_1
theorem dksX15_on_0 : cX15_on.data.toList.drop 0 = dktX15_on_0 := by decide +kernel
theorem dksX15_on_1 : cX15_on.data.toList.drop 23 = dktX15_on_1 := dk_seg dksX15_on_0 23 rfl rfl
theorem dksX15_on_2 : cX15_on.data.toList.drop 26 = dktX15_on_2 := dk_seg dksX15_on_1 3 rfl rfl
theorem dksX15_on_3 : cX15_on.data.toList.drop 76 = dktX15_on_3 := dk_seg dksX15_on_2 50 rfl rfl
theorem dksX15_on_4 : cX15_on.data.toList.drop 100 = dktX15_on_4 := dk_seg dksX15_on_3 24 rfl rfl
theorem dX15_on_0 : decode cX15_on 0 = .ok (.aload_n 0, 1) := dk_42 (dk_at dksX15_on_0 0 rfl rfl)
theorem dX15_on_1 : decode cX15_on 1 = .ok (.getfield 13, 3) := dk_180 0 13 (dk_at dksX15_on_0 1 rfl rfl)
theorem dX15_on_4 : decode cX15_on 4 = .ok (.aload_n 1, 1) := dk_43 (dk_at dksX15_on_0 4 rfl rfl)
theorem dX15_on_5 : decode cX15_on 5 = .ok (.invokeinterface 20 2, 5) := by decide +kernel
theorem dX15_on_10 : decode cX15_on 10 = .ok (.istore_n 2, 1) := dk_61 (dk_at dksX15_on_0 10 rfl rfl)
theorem dX15_on_11 : decode cX15_on 11 = .ok (.aload_n 0, 1) := dk_42 (dk_at dksX15_on_0 11 rfl rfl)
theorem dX15_on_12 : decode cX15_on 12 = .ok (.getfield 17, 3) := dk_180 0 17 (dk_at dksX15_on_0 12 rfl rfl)
theorem dX15_on_15 : decode cX15_on 15 = .ok (.aload_n 1, 1) := dk_43 (dk_at dksX15_on_0 15 rfl rfl)
theorem dX15_on_16 : decode cX15_on 16 = .ok (.invokeinterface 20 2, 5) := by decide +kernel
theorem dX15_on_21 : decode cX15_on 21 = .ok (.istore_n 3, 1) := dk_62 (dk_at dksX15_on_0 21 rfl rfl)
theorem dX15_on_22 : decode cX15_on 22 = .ok (.aload_n 0, 1) := dk_42 (dk_at dksX15_on_0 22 rfl rfl)
theorem dX15_on_23 : decode cX15_on 23 = .ok (.getfield 7, 3) := dk_180 0 7 (dk_at dksX15_on_1 0 rfl rfl)
theorem dX15_on_26 : decode cX15_on 26 = .ok (.lookupswitch 80 #[(42, 58), (43, 50), (45, 54), (47, 62), (91, 74)], 50) := by decide +kernel
theorem dX15_on_76 : decode cX15_on 76 = .ok (.iload_n 2, 1) := dk_28 (dk_at dksX15_on_3 0 rfl rfl)
theorem dX15_on_77 : decode cX15_on 77 = .ok (.iload_n 3, 1) := dk_29 (dk_at dksX15_on_3 1 rfl rfl)
theorem dX15_on_78 : decode cX15_on 78 = .ok (.iadd, 1) := dk_96 (dk_at dksX15_on_3 2 rfl rfl)
theorem dX15_on_79 : decode cX15_on 79 = .ok (.ireturn, 1) := dk_172 (dk_at dksX15_on_3 3 rfl rfl)
theorem dX15_on_80 : decode cX15_on 80 = .ok (.iload_n 2, 1) := dk_28 (dk_at dksX15_on_3 4 rfl rfl)
theorem dX15_on_81 : decode cX15_on 81 = .ok (.iload_n 3, 1) := dk_29 (dk_at dksX15_on_3 5 rfl rfl)
theorem dX15_on_82 : decode cX15_on 82 = .ok (.isub, 1) := dk_100 (dk_at dksX15_on_3 6 rfl rfl)
theorem dX15_on_83 : decode cX15_on 83 = .ok (.ireturn, 1) := dk_172 (dk_at dksX15_on_3 7 rfl rfl)
theorem dX15_on_84 : decode cX15_on 84 = .ok (.iload_n 2, 1) := dk_28 (dk_at dksX15_on_3 8 rfl rfl)
theorem dX15_on_85 : decode cX15_on 85 = .ok (.iload_n 3, 1) := dk_29 (dk_at dksX15_on_3 9 rfl rfl)
theorem dX15_on_86 : decode cX15_on 86 = .ok (.imul, 1) := dk_104 (dk_at dksX15_on_3 10 rfl rfl)
theorem dX15_on_87 : decode cX15_on 87 = .ok (.ireturn, 1) := dk_172 (dk_at dksX15_on_3 11 rfl rfl)
theorem dX15_on_88 : decode cX15_on 88 = .ok (.iload_n 3, 1) := dk_29 (dk_at dksX15_on_3 12 rfl rfl)
theorem dX15_on_89 : decode cX15_on 89 = .ok (.ifCond .ne 7, 3) := dk_154 0 7 (dk_at dksX15_on_3 13 rfl rfl)
theorem dX15_on_92 : decode cX15_on 92 = .ok (.iconst 0, 1) := dk_3 (dk_at dksX15_on_3 16 rfl rfl)
theorem dX15_on_93 : decode cX15_on 93 = .ok (.goto 6, 3) := dk_167 0 6 (dk_at dksX15_on_3 17 rfl rfl)
theorem dX15_on_96 : decode cX15_on 96 = .ok (.iload_n 2, 1) := dk_28 (dk_at dksX15_on_3 20 rfl rfl)
theorem dX15_on_97 : decode cX15_on 97 = .ok (.iload_n 3, 1) := dk_29 (dk_at dksX15_on_3 21 rfl rfl)
theorem dX15_on_98 : decode cX15_on 98 = .ok (.idiv, 1) := dk_108 (dk_at dksX15_on_3 22 rfl rfl)
theorem dX15_on_99 : decode cX15_on 99 = .ok (.ireturn, 1) := dk_172 (dk_at dksX15_on_3 23 rfl rfl)
theorem dX15_on_100 : decode cX15_on 100 = .ok (.iload_n 2, 1) := dk_28 (dk_at dksX15_on_4 0 rfl rfl)
theorem dX15_on_101 : decode cX15_on 101 = .ok (.iload_n 3, 1) := dk_29 (dk_at dksX15_on_4 1 rfl rfl)
theorem dX15_on_102 : decode cX15_on 102 = .ok (.invokestatic 26, 3) := dk_184 0 26 (dk_at dksX15_on_4 2 rfl rfl)
theorem dX15_on_105 : decode cX15_on 105 = .ok (.ireturn, 1) := dk_172 (dk_at dksX15_on_4 5 rfl rfl)
theorem dX15_on_106 : decode cX15_on 106 = .ok (.iload_n 2, 1) := dk_28 (dk_at dksX15_on_4 6 rfl rfl)
theorem dX15_on_107 : decode cX15_on 107 = .ok (.iload_n 3, 1) := dk_29 (dk_at dksX15_on_4 7 rfl rfl)
theorem dX15_on_108 : decode cX15_on 108 = .ok (.invokestatic 32, 3) := dk_184 0 32 (dk_at dksX15_on_4 8 rfl rfl)
theorem dX15_on_111 : decode cX15_on 111 = .ok (.ireturn, 1) := dk_172 (dk_at dksX15_on_4 11 rfl rfl)
abbrev cX15_init : ByteArray := prog_15_method_1_code
def yX15_init : MethodName := ⟨RX15, "<init>", "(CLRainWheel$Term;LRainWheel$Term;)V"⟩
def dkwX15_init_0 : List UInt8 := [42, 183, 0, 1, 42, 27, 181, 0, 7, 42, 44, 181, 0, 13, 42, 45, 181, 0, 17, 177]
abbrev dktX15_init_0 : List UInt8 := dkwX15_init_0 ++ []
theorem dksX15_init_0 : cX15_init.data.toList.drop 0 = dktX15_init_0 := by decide +kernel
theorem dX15_init_0 : decode cX15_init 0 = .ok (.aload_n 0, 1) := dk_42 (dk_at dksX15_init_0 0 rfl rfl)
theorem dX15_init_1 : decode cX15_init 1 = .ok (.invokespecial 1, 3) := dk_183 0 1 (dk_at dksX15_init_0 1 rfl rfl)
theorem dX15_init_4 : decode cX15_init 4 = .ok (.aload_n 0, 1) := dk_42 (dk_at dksX15_init_0 4 rfl rfl)
theorem dX15_init_5 : decode cX15_init 5 = .ok (.iload_n 1, 1) := dk_27 (dk_at dksX15_init_0 5 rfl rfl)
theorem dX15_init_6 : decode cX15_init 6 = .ok (.putfield 7, 3) := dk_181 0 7 (dk_at dksX15_init_0 6 rfl rfl)
theorem dX15_init_9 : decode cX15_init 9 = .ok (.aload_n 0, 1) := dk_42 (dk_at dksX15_init_0 9 rfl rfl)
theorem dX15_init_10 : decode cX15_init 10 = .ok (.aload_n 2, 1) := dk_44 (dk_at dksX15_init_0 10 rfl rfl)
theorem dX15_init_11 : decode cX15_init 11 = .ok (.putfield 13, 3) := dk_181 0 13 (dk_at dksX15_init_0 11 rfl rfl)
theorem dX15_init_14 : decode cX15_init 14 = .ok (.aload_n 0, 1) := dk_42 (dk_at dksX15_init_0 14 rfl rfl)
theorem dX15_init_15 : decode cX15_init 15 = .ok (.aload_n 3, 1) := dk_45 (dk_at dksX15_init_0 15 rfl rfl)
theorem dX15_init_16 : decode cX15_init 16 = .ok (.putfield 17, 3) := dk_181 0 17 (dk_at dksX15_init_0 16 rfl rfl)
theorem dX15_init_19 : decode cX15_init 19 = .ok (.return_, 1) := dk_177 (dk_at dksX15_init_0 19 rfl rfl)
theorem q119 : (Jvm.Cond.initialized "RainWheel$Two") ∈ lw_all := lw_g (lw_at lw_m1 24 rfl) rfl
theorem q614 : (Jvm.Cond.castable "RainWheel$Two" "RainWheel$Term") ∈ lw_tbl := lw_at lw_m3 39 rfl
theorem q615 : (Jvm.Cond.selects "RainWheel$Two" ({ cls := "RainWheel$Term", name := "on", desc := "(LRainWheel$Sight;)I" } : Jvm.MethodName) ({ cls := "RainWheel$Two", name := "on", desc := "(LRainWheel$Sight;)I" } : Jvm.MethodName)) ∈ lw_all := lw_g (lw_at lw_m3 40 rfl) rfl
theorem q616 : (Jvm.Cond.unhidden "RainWheel$Two" "on" "(LRainWheel$Sight;)I") ∈ lw_tbl := lw_at lw_m3 41 rfl
theorem q617 : (Jvm.Cond.instanceMethod ({ cls := "RainWheel$Two", name := "on", desc := "(LRainWheel$Sight;)I" } : Jvm.MethodName)) ∈ lw_all := lw_g (lw_at lw_m3 42 rfl) rfl
theorem q618 : (Jvm.Cond.publicMethod ({ cls := "RainWheel$Two", name := "on", desc := "(LRainWheel$Sight;)I" } : Jvm.MethodName)) ∈ lw_tbl := lw_at lw_m3 43 rfl
theorem q619 : (Jvm.Cond.code ({ cls := "RainWheel$Two", name := "on", desc := "(LRainWheel$Sight;)I" } : Jvm.MethodName) prog_15_method_2_code (4 : Nat) (Option.some Jvm.ClassFile.FieldType.int)) ∈ lw_all := lw_g (lw_at lw_m3 44 rfl) rfl
theorem q620 : (Jvm.Cond.interfaceEntry "RainWheel$Two" (20 : Nat)) ∈ lw_tbl := lw_at lw_m3 45 rfl
theorem q621 : (Jvm.Cond.methodLink "RainWheel$Two" (20 : Nat) ({ cls := "RainWheel$Term", name := "on", desc := "(LRainWheel$Sight;)I" } : Jvm.MethodName)) ∈ lw_all := lw_g (lw_at lw_m3 46 rfl) rfl
theorem q622 : (Jvm.Cond.methodLink "RainWheel$Two" (26 : Nat) ({ cls := "java/lang/Math", name := "min", desc := "(II)I" } : Jvm.MethodName)) ∈ lw_all := lw_g (lw_at lw_m3 47 rfl) rfl
theorem q625 : (Jvm.Cond.methodLink "RainWheel$Two" (32 : Nat) ({ cls := "java/lang/Math", name := "max", desc := "(II)I" } : Jvm.MethodName)) ∈ lw_all := lw_g (lw_at lw_m3 50 rfl) rfl
theorem q1048 : (Jvm.Cond.instantiable "RainWheel$Two" (3 : Nat)) ∈ lw_all := lw_g (lw_at lw_m4 233 rfl) rfl
theorem q1050 : (Jvm.Cond.instanceMethod ({ cls := "RainWheel$Two", name := "<init>", desc := "(CLRainWheel$Term;LRainWheel$Term;)V" } : Jvm.MethodName)) ∈ lw_all := lw_g (lw_at lw_m4 235 rfl) rfl
theorem q1051 : (Jvm.Cond.code ({ cls := "RainWheel$Two", name := "<init>", desc := "(CLRainWheel$Term;LRainWheel$Term;)V" } : Jvm.MethodName) prog_15_method_1_code (4 : Nat) (Option.none : Option Jvm.ClassFile.FieldType)) ∈ lw_all := lw_g (lw_at lw_m4 236 rfl) rfl
theorem q1052 : (Jvm.Cond.methodLink "RainWheel$Two" (1 : Nat) ({ cls := "java/lang/Object", name := "<init>", desc := "()V" } : Jvm.MethodName)) ∈ lw_all := lw_g (lw_at lw_m4 237 rfl) rfl
theorem q1053 : (Jvm.Cond.fieldLink "RainWheel$Two" (7 : Nat) "RainWheel$Two" "sign" "C") ∈ lw_all := lw_g (lw_at lw_m4 238 rfl) rfl
theorem q1054 : (Jvm.Cond.fieldLink "RainWheel$Two" (13 : Nat) "RainWheel$Two" "one" "LRainWheel$Term;") ∈ lw_all := lw_g (lw_at lw_m4 239 rfl) rfl
theorem q1055 : (Jvm.Cond.fieldLink "RainWheel$Two" (17 : Nat) "RainWheel$Two" "other" "LRainWheel$Term;") ∈ lw_all := lw_g (lw_at lw_m5 0 rfl) rfl
theorem q1056 : (Jvm.Cond.laysFinal "RainWheel$Two" "RainWheel$Two" "sign" "C") ∈ lw_all := lw_g (lw_at lw_m5 1 rfl) rfl
theorem q1057 : (Jvm.Cond.soleField "RainWheel$Two" "sign") ∈ lw_all := lw_g (lw_at lw_m5 2 rfl) rfl
theorem q1058 : (Jvm.Cond.laysFinal "RainWheel$Two" "RainWheel$Two" "one" "LRainWheel$Term;") ∈ lw_all := lw_g (lw_at lw_m5 3 rfl) rfl
theorem q1059 : (Jvm.Cond.soleField "RainWheel$Two" "one") ∈ lw_all := lw_g (lw_at lw_m5 4 rfl) rfl
theorem q1060 : (Jvm.Cond.laysFinal "RainWheel$Two" "RainWheel$Two" "other" "LRainWheel$Term;") ∈ lw_all := lw_g (lw_at lw_m5 5 rfl) rfl
theorem q1061 : (Jvm.Cond.soleField "RainWheel$Two" "other") ∈ lw_all := lw_g (lw_at lw_m5 6 rfl) rfl
theorem q1062 : (Jvm.Cond.superclass "RainWheel$Two" "java/lang/Object") ∈ lw_all := lw_g (lw_at lw_m5 7 rfl) rfl
theorem q2266 : (Jvm.Cond.castable "RainWheel$Two" "java/lang/Object") ∈ lw_tbl := lw_at lw_m10 11 rfl

abbrev cX16_on : ByteArray := prog_2_method_2_code
def yX16_on : MethodName := ⟨RX16, "on", "(LRainWheel$Sight;)I"⟩
theorem dX16_on_0 : decode cX16_on 0 = .ok (.aload_n 0, 1) := by decide +kernel
theorem dX16_on_1 : decode cX16_on 1 = .ok (.getfield 7, 3) := by decide +kernel
theorem dX16_on_4 : decode cX16_on 4 = .ok (.ireturn, 1) := by decide +kernel
abbrev cX16_init : ByteArray := prog_2_method_1_code
def yX16_init : MethodName := ⟨RX16, "<init>", "(I)V"⟩
def dkwX16_init_0 : List UInt8 := [42, 183, 0, 1, 42, 27, 181, 0, 7, 177]
abbrev dktX16_init_0 : List UInt8 := dkwX16_init_0 ++ []
theorem dksX16_init_0 : cX16_init.data.toList.drop 0 = dktX16_init_0 := by decide +kernel
theorem dX16_init_0 : decode cX16_init 0 = .ok (.aload_n 0, 1) := dk_42 (dk_at dksX16_init_0 0 rfl rfl)
theorem dX16_init_1 : decode cX16_init 1 = .ok (.invokespecial 1, 3) := dk_183 0 1 (dk_at dksX16_init_0 1 rfl rfl)
theorem dX16_init_4 : decode cX16_init 4 = .ok (.aload_n 0, 1) := dk_42 (dk_at dksX16_init_0 4 rfl rfl)
theorem dX16_init_5 : decode cX16_init 5 = .ok (.iload_n 1, 1) := dk_27 (dk_at dksX16_init_0 5 rfl rfl)
theorem dX16_init_6 : decode cX16_init 6 = .ok (.putfield 7, 3) := dk_181 0 7 (dk_at dksX16_init_0 6 rfl rfl)
theorem dX16_init_9 : decode cX16_init 9 = .ok (.return_, 1) := dk_177 (dk_at dksX16_init_0 9 rfl rfl)
theorem q120 : (Jvm.Cond.initialized "RainWheel$Amount") ∈ lw_all := lw_g (lw_at lw_m1 25 rfl) rfl
theorem q598 : (Jvm.Cond.castable "RainWheel$Amount" "RainWheel$Term") ∈ lw_tbl := lw_at lw_m3 23 rfl
theorem q599 : (Jvm.Cond.selects "RainWheel$Amount" ({ cls := "RainWheel$Term", name := "on", desc := "(LRainWheel$Sight;)I" } : Jvm.MethodName) ({ cls := "RainWheel$Amount", name := "on", desc := "(LRainWheel$Sight;)I" } : Jvm.MethodName)) ∈ lw_all := lw_g (lw_at lw_m3 24 rfl) rfl
theorem q600 : (Jvm.Cond.unhidden "RainWheel$Amount" "on" "(LRainWheel$Sight;)I") ∈ lw_tbl := lw_at lw_m3 25 rfl
theorem q601 : (Jvm.Cond.instanceMethod ({ cls := "RainWheel$Amount", name := "on", desc := "(LRainWheel$Sight;)I" } : Jvm.MethodName)) ∈ lw_all := lw_g (lw_at lw_m3 26 rfl) rfl
theorem q602 : (Jvm.Cond.publicMethod ({ cls := "RainWheel$Amount", name := "on", desc := "(LRainWheel$Sight;)I" } : Jvm.MethodName)) ∈ lw_tbl := lw_at lw_m3 27 rfl
theorem q603 : (Jvm.Cond.code ({ cls := "RainWheel$Amount", name := "on", desc := "(LRainWheel$Sight;)I" } : Jvm.MethodName) prog_2_method_2_code (2 : Nat) (Option.some Jvm.ClassFile.FieldType.int)) ∈ lw_all := lw_g (lw_at lw_m3 28 rfl) rfl
theorem q1066 : (Jvm.Cond.instantiable "RainWheel$Amount" (1 : Nat)) ∈ lw_all := lw_g (lw_at lw_m5 11 rfl) rfl
theorem q1069 : (Jvm.Cond.instanceMethod ({ cls := "RainWheel$Amount", name := "<init>", desc := "(I)V" } : Jvm.MethodName)) ∈ lw_all := lw_g (lw_at lw_m5 14 rfl) rfl
theorem q1070 : (Jvm.Cond.code ({ cls := "RainWheel$Amount", name := "<init>", desc := "(I)V" } : Jvm.MethodName) prog_2_method_1_code (2 : Nat) (Option.none : Option Jvm.ClassFile.FieldType)) ∈ lw_all := lw_g (lw_at lw_m5 15 rfl) rfl
theorem q1071 : (Jvm.Cond.methodLink "RainWheel$Amount" (1 : Nat) ({ cls := "java/lang/Object", name := "<init>", desc := "()V" } : Jvm.MethodName)) ∈ lw_all := lw_g (lw_at lw_m5 16 rfl) rfl
theorem q1072 : (Jvm.Cond.fieldLink "RainWheel$Amount" (7 : Nat) "RainWheel$Amount" "number" "I") ∈ lw_all := lw_g (lw_at lw_m5 17 rfl) rfl
theorem q1073 : (Jvm.Cond.laysFinal "RainWheel$Amount" "RainWheel$Amount" "number" "I") ∈ lw_all := lw_g (lw_at lw_m5 18 rfl) rfl
theorem q1074 : (Jvm.Cond.soleField "RainWheel$Amount" "number") ∈ lw_all := lw_g (lw_at lw_m5 19 rfl) rfl
theorem q1075 : (Jvm.Cond.superclass "RainWheel$Amount" "java/lang/Object") ∈ lw_all := lw_g (lw_at lw_m5 20 rfl) rfl
theorem q2267 : (Jvm.Cond.castable "RainWheel$Amount" "java/lang/Object") ∈ lw_tbl := lw_at lw_m10 12 rfl

abbrev cX17_on : ByteArray := prog_3_method_2_code
def yX17_on : MethodName := ⟨RX17, "on", "(LRainWheel$Sight;)I"⟩
def dkwX17_on_0 : List UInt8 := [43, 42, 180, 0, 7, 182, 0, 13, 172]
abbrev dktX17_on_0 : List UInt8 := dkwX17_on_0 ++ []
theorem dksX17_on_0 : cX17_on.data.toList.drop 0 = dktX17_on_0 := by decide +kernel
theorem dX17_on_0 : decode cX17_on 0 = .ok (.aload_n 1, 1) := dk_43 (dk_at dksX17_on_0 0 rfl rfl)
theorem dX17_on_1 : decode cX17_on 1 = .ok (.aload_n 0, 1) := dk_42 (dk_at dksX17_on_0 1 rfl rfl)
theorem dX17_on_2 : decode cX17_on 2 = .ok (.getfield 7, 3) := dk_180 0 7 (dk_at dksX17_on_0 2 rfl rfl)
theorem dX17_on_5 : decode cX17_on 5 = .ok (.invokevirtual 13, 3) := dk_182 0 13 (dk_at dksX17_on_0 5 rfl rfl)
theorem dX17_on_8 : decode cX17_on 8 = .ok (.ireturn, 1) := dk_172 (dk_at dksX17_on_0 8 rfl rfl)
abbrev cX17_init : ByteArray := prog_3_method_1_code
def yX17_init : MethodName := ⟨RX17, "<init>", "(I)V"⟩
def dkwX17_init_0 : List UInt8 := [42, 183, 0, 1, 42, 27, 181, 0, 7, 177]
abbrev dktX17_init_0 : List UInt8 := dkwX17_init_0 ++ []
theorem dksX17_init_0 : cX17_init.data.toList.drop 0 = dktX17_init_0 := by decide +kernel
theorem dX17_init_0 : decode cX17_init 0 = .ok (.aload_n 0, 1) := dk_42 (dk_at dksX17_init_0 0 rfl rfl)
theorem dX17_init_1 : decode cX17_init 1 = .ok (.invokespecial 1, 3) := dk_183 0 1 (dk_at dksX17_init_0 1 rfl rfl)
theorem dX17_init_4 : decode cX17_init 4 = .ok (.aload_n 0, 1) := dk_42 (dk_at dksX17_init_0 4 rfl rfl)
theorem dX17_init_5 : decode cX17_init 5 = .ok (.iload_n 1, 1) := dk_27 (dk_at dksX17_init_0 5 rfl rfl)
theorem dX17_init_6 : decode cX17_init 6 = .ok (.putfield 7, 3) := dk_181 0 7 (dk_at dksX17_init_0 6 rfl rfl)
theorem dX17_init_9 : decode cX17_init 9 = .ok (.return_, 1) := dk_177 (dk_at dksX17_init_0 9 rfl rfl)
theorem q121 : (Jvm.Cond.initialized "RainWheel$Known") ∈ lw_all := lw_g (lw_at lw_m1 26 rfl) rfl
theorem q604 : (Jvm.Cond.castable "RainWheel$Known" "RainWheel$Term") ∈ lw_tbl := lw_at lw_m3 29 rfl
theorem q605 : (Jvm.Cond.selects "RainWheel$Known" ({ cls := "RainWheel$Term", name := "on", desc := "(LRainWheel$Sight;)I" } : Jvm.MethodName) ({ cls := "RainWheel$Known", name := "on", desc := "(LRainWheel$Sight;)I" } : Jvm.MethodName)) ∈ lw_all := lw_g (lw_at lw_m3 30 rfl) rfl
theorem q606 : (Jvm.Cond.unhidden "RainWheel$Known" "on" "(LRainWheel$Sight;)I") ∈ lw_tbl := lw_at lw_m3 31 rfl
theorem q607 : (Jvm.Cond.instanceMethod ({ cls := "RainWheel$Known", name := "on", desc := "(LRainWheel$Sight;)I" } : Jvm.MethodName)) ∈ lw_all := lw_g (lw_at lw_m3 32 rfl) rfl
theorem q608 : (Jvm.Cond.publicMethod ({ cls := "RainWheel$Known", name := "on", desc := "(LRainWheel$Sight;)I" } : Jvm.MethodName)) ∈ lw_tbl := lw_at lw_m3 33 rfl
theorem q609 : (Jvm.Cond.code ({ cls := "RainWheel$Known", name := "on", desc := "(LRainWheel$Sight;)I" } : Jvm.MethodName) prog_3_method_2_code (2 : Nat) (Option.some Jvm.ClassFile.FieldType.int)) ∈ lw_all := lw_g (lw_at lw_m3 34 rfl) rfl
theorem q610 : (Jvm.Cond.methodLink "RainWheel$Known" (13 : Nat) ({ cls := "RainWheel$Sight", name := "known", desc := "(I)I" } : Jvm.MethodName)) ∈ lw_all := lw_g (lw_at lw_m3 35 rfl) rfl
theorem q1077 : (Jvm.Cond.instantiable "RainWheel$Known" (1 : Nat)) ∈ lw_all := lw_g (lw_at lw_m5 22 rfl) rfl
theorem q1079 : (Jvm.Cond.instanceMethod ({ cls := "RainWheel$Known", name := "<init>", desc := "(I)V" } : Jvm.MethodName)) ∈ lw_all := lw_g (lw_at lw_m5 24 rfl) rfl
theorem q1080 : (Jvm.Cond.code ({ cls := "RainWheel$Known", name := "<init>", desc := "(I)V" } : Jvm.MethodName) prog_3_method_1_code (2 : Nat) (Option.none : Option Jvm.ClassFile.FieldType)) ∈ lw_all := lw_g (lw_at lw_m5 25 rfl) rfl
theorem q1081 : (Jvm.Cond.methodLink "RainWheel$Known" (1 : Nat) ({ cls := "java/lang/Object", name := "<init>", desc := "()V" } : Jvm.MethodName)) ∈ lw_all := lw_g (lw_at lw_m5 26 rfl) rfl
theorem q1082 : (Jvm.Cond.fieldLink "RainWheel$Known" (7 : Nat) "RainWheel$Known" "which" "I") ∈ lw_all := lw_g (lw_at lw_m5 27 rfl) rfl
theorem q1083 : (Jvm.Cond.laysFinal "RainWheel$Known" "RainWheel$Known" "which" "I") ∈ lw_all := lw_g (lw_at lw_m5 28 rfl) rfl
theorem q1084 : (Jvm.Cond.soleField "RainWheel$Known" "which") ∈ lw_all := lw_g (lw_at lw_m5 29 rfl) rfl
theorem q1085 : (Jvm.Cond.superclass "RainWheel$Known" "java/lang/Object") ∈ lw_all := lw_g (lw_at lw_m5 30 rfl) rfl
theorem q2268 : (Jvm.Cond.castable "RainWheel$Known" "java/lang/Object") ∈ lw_tbl := lw_at lw_m10 13 rfl

theorem q596 : (Jvm.Cond.interfaceMethod "RainWheel$Term" "RainWheel$Term" "on" "(LRainWheel$Sight;)I") ∈ lw_tbl := lw_at lw_m3 21 rfl
set_option maxRecDepth 100000
theorem q597 : (Jvm.Cond.declares ({ cls := "RainWheel$Term", name := "on", desc := "(LRainWheel$Sight;)I" } : Jvm.MethodName)) ∈ lw_tbl := lw_at lw_m3 22 rfl
