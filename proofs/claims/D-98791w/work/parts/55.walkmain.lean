set_option maxRecDepth 100000
theorem q1094 : (Jvm.Cond.methodLink "RainWheelLaw" (156 : Nat) ({ cls := "RainWheelLaw", name := "plan", desc := "(LRainWheel;I[J)I" } : Jvm.MethodName)) ∈ lw_all := lw_g (lw_at lw_m5 39 rfl) rfl
theorem q1095 : (Jvm.Cond.static ({ cls := "RainWheelLaw", name := "plan", desc := "(LRainWheel;I[J)I" } : Jvm.MethodName)) ∈ lw_all := lw_g (lw_at lw_m5 40 rfl) rfl
theorem q1096 : (Jvm.Cond.codeWith ({ cls := "RainWheelLaw", name := "plan", desc := "(LRainWheel;I[J)I" } : Jvm.MethodName) method_5_code (4 : Nat) (Option.some Jvm.ClassFile.FieldType.int) [((0 : Nat), (9 : Nat), (12 : Nat), (13 : Nat))]) ∈ lw_all := lw_g (lw_at lw_m5 41 rfl) rfl
theorem q1112 : (Jvm.Cond.methodLink "RainWheelLaw" (159 : Nat) ({ cls := "RainWheelLaw", name := "book", desc := "(LRainWheel;I[J)I" } : Jvm.MethodName)) ∈ lw_all := lw_g (lw_at lw_m5 57 rfl) rfl
theorem q1113 : (Jvm.Cond.static ({ cls := "RainWheelLaw", name := "book", desc := "(LRainWheel;I[J)I" } : Jvm.MethodName)) ∈ lw_all := lw_g (lw_at lw_m5 58 rfl) rfl
theorem q1114 : (Jvm.Cond.codeWith ({ cls := "RainWheelLaw", name := "book", desc := "(LRainWheel;I[J)I" } : Jvm.MethodName) method_6_code (4 : Nat) (Option.some Jvm.ClassFile.FieldType.int) [((0 : Nat), (9 : Nat), (12 : Nat), (13 : Nat))]) ∈ lw_all := lw_g (lw_at lw_m5 59 rfl) rfl
theorem q1125 : (Jvm.Cond.methodLink "RainWheelLaw" (166 : Nat) ({ cls := "RainWheelLaw", name := "told", desc := "(LRainWheel;I[J)I" } : Jvm.MethodName)) ∈ lw_all := lw_g (lw_at lw_m5 70 rfl) rfl
theorem q1126 : (Jvm.Cond.static ({ cls := "RainWheelLaw", name := "told", desc := "(LRainWheel;I[J)I" } : Jvm.MethodName)) ∈ lw_all := lw_g (lw_at lw_m5 71 rfl) rfl
theorem q1127 : (Jvm.Cond.codeWith ({ cls := "RainWheelLaw", name := "told", desc := "(LRainWheel;I[J)I" } : Jvm.MethodName) method_7_code (4 : Nat) (Option.some Jvm.ClassFile.FieldType.int) [((0 : Nat), (9 : Nat), (12 : Nat), (13 : Nat))]) ∈ lw_all := lw_g (lw_at lw_m5 72 rfl) rfl
theorem q1132 : (Jvm.Cond.methodLink "RainWheelLaw" (169 : Nat) ({ cls := "RainWheelLaw", name := "deed", desc := "(LRainWheel;II[J)I" } : Jvm.MethodName)) ∈ lw_all := lw_g (lw_at lw_m5 77 rfl) rfl
theorem q1133 : (Jvm.Cond.static ({ cls := "RainWheelLaw", name := "deed", desc := "(LRainWheel;II[J)I" } : Jvm.MethodName)) ∈ lw_all := lw_g (lw_at lw_m5 78 rfl) rfl
theorem q1134 : (Jvm.Cond.codeWith ({ cls := "RainWheelLaw", name := "deed", desc := "(LRainWheel;II[J)I" } : Jvm.MethodName) method_8_code (5 : Nat) (Option.some Jvm.ClassFile.FieldType.int) [((0 : Nat), (10 : Nat), (13 : Nat), (31 : Nat)), ((0 : Nat), (10 : Nat), (17 : Nat), (13 : Nat))]) ∈ lw_all := lw_g (lw_at lw_m5 79 rfl) rfl
theorem q1163 : (Jvm.Cond.methodLink "RainWheelLaw" (173 : Nat) ({ cls := "RainWheelLaw", name := "strong", desc := "(LRainWheel;I[J)I" } : Jvm.MethodName)) ∈ lw_all := lw_g (lw_at lw_m5 108 rfl) rfl
theorem q1164 : (Jvm.Cond.static ({ cls := "RainWheelLaw", name := "strong", desc := "(LRainWheel;I[J)I" } : Jvm.MethodName)) ∈ lw_all := lw_g (lw_at lw_m5 109 rfl) rfl
theorem q1165 : (Jvm.Cond.codeWith ({ cls := "RainWheelLaw", name := "strong", desc := "(LRainWheel;I[J)I" } : Jvm.MethodName) method_9_code (4 : Nat) (Option.some Jvm.ClassFile.FieldType.int) [((0 : Nat), (9 : Nat), (12 : Nat), (31 : Nat))]) ∈ lw_all := lw_g (lw_at lw_m5 110 rfl) rfl
theorem q1174 : (Jvm.Cond.methodLink "RainWheelLaw" (176 : Nat) ({ cls := "RainWheelLaw", name := "bears", desc := "(LRainWheel;I[J)I" } : Jvm.MethodName)) ∈ lw_all := lw_g (lw_at lw_m5 119 rfl) rfl
theorem q1175 : (Jvm.Cond.static ({ cls := "RainWheelLaw", name := "bears", desc := "(LRainWheel;I[J)I" } : Jvm.MethodName)) ∈ lw_all := lw_g (lw_at lw_m5 120 rfl) rfl
theorem q1176 : (Jvm.Cond.codeWith ({ cls := "RainWheelLaw", name := "bears", desc := "(LRainWheel;I[J)I" } : Jvm.MethodName) method_10_code (4 : Nat) (Option.some Jvm.ClassFile.FieldType.int) [((0 : Nat), (9 : Nat), (12 : Nat), (13 : Nat))]) ∈ lw_all := lw_g (lw_at lw_m5 121 rfl) rfl
theorem q1181 : (Jvm.Cond.methodLink "RainWheelLaw" (179 : Nat) ({ cls := "RainWheelLaw", name := "rains", desc := "(LRainWheel;I[J)I" } : Jvm.MethodName)) ∈ lw_all := lw_g (lw_at lw_m5 126 rfl) rfl
theorem q1182 : (Jvm.Cond.static ({ cls := "RainWheelLaw", name := "rains", desc := "(LRainWheel;I[J)I" } : Jvm.MethodName)) ∈ lw_all := lw_g (lw_at lw_m5 127 rfl) rfl
theorem q1183 : (Jvm.Cond.codeWith ({ cls := "RainWheelLaw", name := "rains", desc := "(LRainWheel;I[J)I" } : Jvm.MethodName) method_11_code (4 : Nat) (Option.some Jvm.ClassFile.FieldType.int) [((0 : Nat), (16 : Nat), (19 : Nat), (13 : Nat))]) ∈ lw_all := lw_g (lw_at lw_m5 128 rfl) rfl
theorem q1189 : (Jvm.Cond.methodLink "RainWheelLaw" (182 : Nat) ({ cls := "RainWheelLaw", name := "would", desc := "(LRainWheel;IIIIII[J)I" } : Jvm.MethodName)) ∈ lw_all := lw_g (lw_at lw_m5 134 rfl) rfl
theorem q1190 : (Jvm.Cond.static ({ cls := "RainWheelLaw", name := "would", desc := "(LRainWheel;IIIIII[J)I" } : Jvm.MethodName)) ∈ lw_all := lw_g (lw_at lw_m5 135 rfl) rfl
theorem q1191 : (Jvm.Cond.codeWith ({ cls := "RainWheelLaw", name := "would", desc := "(LRainWheel;IIIIII[J)I" } : Jvm.MethodName) method_12_code (9 : Nat) (Option.some Jvm.ClassFile.FieldType.int) [((0 : Nat), (18 : Nat), (21 : Nat), (13 : Nat))]) ∈ lw_all := lw_g (lw_at lw_m5 136 rfl) rfl
theorem q1199 : (Jvm.Cond.methodLink "RainWheelLaw" (186 : Nat) ({ cls := "RainWheelLaw", name := "line", desc := "(LRainWheel;II[J)I" } : Jvm.MethodName)) ∈ lw_all := lw_g (lw_at lw_m5 144 rfl) rfl
theorem q1200 : (Jvm.Cond.static ({ cls := "RainWheelLaw", name := "line", desc := "(LRainWheel;II[J)I" } : Jvm.MethodName)) ∈ lw_all := lw_g (lw_at lw_m5 145 rfl) rfl
theorem q1201 : (Jvm.Cond.codeWith ({ cls := "RainWheelLaw", name := "line", desc := "(LRainWheel;II[J)I" } : Jvm.MethodName) method_13_code (5 : Nat) (Option.some Jvm.ClassFile.FieldType.int) [((0 : Nat), (10 : Nat), (13 : Nat), (31 : Nat)), ((0 : Nat), (10 : Nat), (17 : Nat), (13 : Nat))]) ∈ lw_all := lw_g (lw_at lw_m5 146 rfl) rfl
theorem q1210 : (Jvm.Cond.methodLink "RainWheelLaw" (193 : Nat) ({ cls := "RainWheelLaw", name := "wet", desc := "(LRainWheel;I[J)I" } : Jvm.MethodName)) ∈ lw_all := lw_g (lw_at lw_m5 155 rfl) rfl
theorem q1211 : (Jvm.Cond.static ({ cls := "RainWheelLaw", name := "wet", desc := "(LRainWheel;I[J)I" } : Jvm.MethodName)) ∈ lw_all := lw_g (lw_at lw_m5 156 rfl) rfl
theorem q1212 : (Jvm.Cond.codeWith ({ cls := "RainWheelLaw", name := "wet", desc := "(LRainWheel;I[J)I" } : Jvm.MethodName) method_14_code (4 : Nat) (Option.some Jvm.ClassFile.FieldType.int) [((0 : Nat), (9 : Nat), (12 : Nat), (31 : Nat))]) ∈ lw_all := lw_g (lw_at lw_m5 157 rfl) rfl
theorem q1217 : (Jvm.Cond.methodLink "RainWheelLaw" (196 : Nat) ({ cls := "RainWheelLaw", name := "idle", desc := "(LRainWheel;I[J)I" } : Jvm.MethodName)) ∈ lw_all := lw_g (lw_at lw_m5 162 rfl) rfl
theorem q1218 : (Jvm.Cond.static ({ cls := "RainWheelLaw", name := "idle", desc := "(LRainWheel;I[J)I" } : Jvm.MethodName)) ∈ lw_all := lw_g (lw_at lw_m5 163 rfl) rfl
theorem q1219 : (Jvm.Cond.codeWith ({ cls := "RainWheelLaw", name := "idle", desc := "(LRainWheel;I[J)I" } : Jvm.MethodName) method_15_code (4 : Nat) (Option.some Jvm.ClassFile.FieldType.int) [((0 : Nat), (9 : Nat), (12 : Nat), (31 : Nat))]) ∈ lw_all := lw_g (lw_at lw_m5 164 rfl) rfl
theorem q1224 : (Jvm.Cond.methodLink "RainWheelLaw" (203 : Nat) ({ cls := "RainWheelLaw", name := "slack", desc := "(LRainWheel;I[J)I" } : Jvm.MethodName)) ∈ lw_all := lw_g (lw_at lw_m5 169 rfl) rfl
theorem q1225 : (Jvm.Cond.static ({ cls := "RainWheelLaw", name := "slack", desc := "(LRainWheel;I[J)I" } : Jvm.MethodName)) ∈ lw_all := lw_g (lw_at lw_m5 170 rfl) rfl
theorem q1226 : (Jvm.Cond.codeWith ({ cls := "RainWheelLaw", name := "slack", desc := "(LRainWheel;I[J)I" } : Jvm.MethodName) method_16_code (4 : Nat) (Option.some Jvm.ClassFile.FieldType.int) [((0 : Nat), (9 : Nat), (12 : Nat), (31 : Nat))]) ∈ lw_all := lw_g (lw_at lw_m5 171 rfl) rfl
theorem q1231 : (Jvm.Cond.methodLink "RainWheelLaw" (210 : Nat) ({ cls := "RainWheelLaw", name := "ahead", desc := "(LRainWheel;I[J)I" } : Jvm.MethodName)) ∈ lw_all := lw_g (lw_at lw_m5 176 rfl) rfl
theorem q1232 : (Jvm.Cond.static ({ cls := "RainWheelLaw", name := "ahead", desc := "(LRainWheel;I[J)I" } : Jvm.MethodName)) ∈ lw_all := lw_g (lw_at lw_m5 177 rfl) rfl
theorem q1233 : (Jvm.Cond.codeWith ({ cls := "RainWheelLaw", name := "ahead", desc := "(LRainWheel;I[J)I" } : Jvm.MethodName) method_17_code (4 : Nat) (Option.some Jvm.ClassFile.FieldType.int) [((0 : Nat), (9 : Nat), (12 : Nat), (31 : Nat))]) ∈ lw_all := lw_g (lw_at lw_m5 178 rfl) rfl
theorem q1242 : (Jvm.Cond.methodLink "RainWheelLaw" (213 : Nat) ({ cls := "RainWheelLaw", name := "chain", desc := "(LRainWheel;I[J)I" } : Jvm.MethodName)) ∈ lw_all := lw_g (lw_at lw_m5 187 rfl) rfl
theorem q1243 : (Jvm.Cond.static ({ cls := "RainWheelLaw", name := "chain", desc := "(LRainWheel;I[J)I" } : Jvm.MethodName)) ∈ lw_all := lw_g (lw_at lw_m5 188 rfl) rfl
theorem q1244 : (Jvm.Cond.codeWith ({ cls := "RainWheelLaw", name := "chain", desc := "(LRainWheel;I[J)I" } : Jvm.MethodName) method_18_code (4 : Nat) (Option.some Jvm.ClassFile.FieldType.int) [((0 : Nat), (9 : Nat), (12 : Nat), (31 : Nat))]) ∈ lw_all := lw_g (lw_at lw_m5 189 rfl) rfl
theorem q1255 : (Jvm.Cond.methodLink "RainWheelLaw" (216 : Nat) ({ cls := "RainWheelLaw", name := "soonest", desc := "(LRainWheel;I[J)I" } : Jvm.MethodName)) ∈ lw_all := lw_g (lw_at lw_m5 200 rfl) rfl
theorem q1256 : (Jvm.Cond.static ({ cls := "RainWheelLaw", name := "soonest", desc := "(LRainWheel;I[J)I" } : Jvm.MethodName)) ∈ lw_all := lw_g (lw_at lw_m5 201 rfl) rfl
theorem q1257 : (Jvm.Cond.codeWith ({ cls := "RainWheelLaw", name := "soonest", desc := "(LRainWheel;I[J)I" } : Jvm.MethodName) method_19_code (4 : Nat) (Option.some Jvm.ClassFile.FieldType.int) [((0 : Nat), (9 : Nat), (12 : Nat), (13 : Nat)), ((0 : Nat), (9 : Nat), (15 : Nat), (68 : Nat))]) ∈ lw_all := lw_g (lw_at lw_m5 202 rfl) rfl
theorem q1302 : (Jvm.Cond.methodLink "RainWheelLaw" (219 : Nat) ({ cls := "RainWheelLaw", name := "first", desc := "(LRainWheel;I[J)I" } : Jvm.MethodName)) ∈ lw_all := lw_g (lw_at lw_m6 7 rfl) rfl
theorem q1303 : (Jvm.Cond.static ({ cls := "RainWheelLaw", name := "first", desc := "(LRainWheel;I[J)I" } : Jvm.MethodName)) ∈ lw_all := lw_g (lw_at lw_m6 8 rfl) rfl
theorem q1304 : (Jvm.Cond.codeWith ({ cls := "RainWheelLaw", name := "first", desc := "(LRainWheel;I[J)I" } : Jvm.MethodName) method_20_code (4 : Nat) (Option.some Jvm.ClassFile.FieldType.int) [((0 : Nat), (9 : Nat), (12 : Nat), (13 : Nat)), ((0 : Nat), (9 : Nat), (15 : Nat), (68 : Nat))]) ∈ lw_all := lw_g (lw_at lw_m6 9 rfl) rfl
theorem q1309 : (Jvm.Cond.methodLink "RainWheelLaw" (222 : Nat) ({ cls := "RainWheelLaw", name := "sinks", desc := "(LRainWheel;III[J)I" } : Jvm.MethodName)) ∈ lw_all := lw_g (lw_at lw_m6 14 rfl) rfl
theorem q1310 : (Jvm.Cond.static ({ cls := "RainWheelLaw", name := "sinks", desc := "(LRainWheel;III[J)I" } : Jvm.MethodName)) ∈ lw_all := lw_g (lw_at lw_m6 15 rfl) rfl
theorem q1311 : (Jvm.Cond.codeWith ({ cls := "RainWheelLaw", name := "sinks", desc := "(LRainWheel;III[J)I" } : Jvm.MethodName) method_21_code (6 : Nat) (Option.some Jvm.ClassFile.FieldType.int) [((0 : Nat), (12 : Nat), (15 : Nat), (13 : Nat))]) ∈ lw_all := lw_g (lw_at lw_m6 16 rfl) rfl
theorem q1324 : (Jvm.Cond.methodLink "RainWheelLaw" (226 : Nat) ({ cls := "RainWheelLaw", name := "under", desc := "(LRainWheel;III[J)I" } : Jvm.MethodName)) ∈ lw_all := lw_g (lw_at lw_m6 29 rfl) rfl
theorem q1325 : (Jvm.Cond.static ({ cls := "RainWheelLaw", name := "under", desc := "(LRainWheel;III[J)I" } : Jvm.MethodName)) ∈ lw_all := lw_g (lw_at lw_m6 30 rfl) rfl
theorem q1326 : (Jvm.Cond.codeWith ({ cls := "RainWheelLaw", name := "under", desc := "(LRainWheel;III[J)I" } : Jvm.MethodName) method_22_code (6 : Nat) (Option.some Jvm.ClassFile.FieldType.int) [((0 : Nat), (12 : Nat), (15 : Nat), (13 : Nat))]) ∈ lw_all := lw_g (lw_at lw_m6 31 rfl) rfl
theorem q1332 : (Jvm.Cond.methodLink "RainWheelLaw" (229 : Nat) ({ cls := "RainWheelLaw", name := "push", desc := "(LRainWheel;IIII[J)I" } : Jvm.MethodName)) ∈ lw_all := lw_g (lw_at lw_m6 37 rfl) rfl
theorem q1333 : (Jvm.Cond.static ({ cls := "RainWheelLaw", name := "push", desc := "(LRainWheel;IIII[J)I" } : Jvm.MethodName)) ∈ lw_all := lw_g (lw_at lw_m6 38 rfl) rfl
theorem q1334 : (Jvm.Cond.codeWith ({ cls := "RainWheelLaw", name := "push", desc := "(LRainWheel;IIII[J)I" } : Jvm.MethodName) method_23_code (7 : Nat) (Option.some Jvm.ClassFile.FieldType.int) [((0 : Nat), (14 : Nat), (17 : Nat), (13 : Nat))]) ∈ lw_all := lw_g (lw_at lw_m6 39 rfl) rfl
theorem q1342 : (Jvm.Cond.methodLink "RainWheelLaw" (233 : Nat) ({ cls := "RainWheelLaw", name := "tries", desc := "(LRainWheel;IIII[J)I" } : Jvm.MethodName)) ∈ lw_all := lw_g (lw_at lw_m6 47 rfl) rfl
theorem q1343 : (Jvm.Cond.static ({ cls := "RainWheelLaw", name := "tries", desc := "(LRainWheel;IIII[J)I" } : Jvm.MethodName)) ∈ lw_all := lw_g (lw_at lw_m6 48 rfl) rfl
theorem q1344 : (Jvm.Cond.codeWith ({ cls := "RainWheelLaw", name := "tries", desc := "(LRainWheel;IIII[J)I" } : Jvm.MethodName) method_24_code (7 : Nat) (Option.some Jvm.ClassFile.FieldType.int) [((0 : Nat), (13 : Nat), (16 : Nat), (31 : Nat)), ((0 : Nat), (13 : Nat), (20 : Nat), (13 : Nat))]) ∈ lw_all := lw_g (lw_at lw_m6 49 rfl) rfl
theorem q1363 : (Jvm.Cond.methodLink "RainWheelLaw" (236 : Nat) ({ cls := "RainWheelLaw", name := "half", desc := "(LRainWheel;II[J)I" } : Jvm.MethodName)) ∈ lw_all := lw_g (lw_at lw_m6 68 rfl) rfl
theorem q1364 : (Jvm.Cond.static ({ cls := "RainWheelLaw", name := "half", desc := "(LRainWheel;II[J)I" } : Jvm.MethodName)) ∈ lw_all := lw_g (lw_at lw_m6 69 rfl) rfl
theorem q1365 : (Jvm.Cond.codeWith ({ cls := "RainWheelLaw", name := "half", desc := "(LRainWheel;II[J)I" } : Jvm.MethodName) method_25_code (5 : Nat) (Option.some Jvm.ClassFile.FieldType.int) [((0 : Nat), (10 : Nat), (13 : Nat), (31 : Nat)), ((0 : Nat), (10 : Nat), (17 : Nat), (13 : Nat))]) ∈ lw_all := lw_g (lw_at lw_m6 70 rfl) rfl
theorem q1371 : (Jvm.Cond.methodLink "RainWheelLaw" (239 : Nat) ({ cls := "RainWheelLaw", name := "easiest", desc := "(LRainWheel;I[J)I" } : Jvm.MethodName)) ∈ lw_all := lw_g (lw_at lw_m6 76 rfl) rfl
theorem q1372 : (Jvm.Cond.static ({ cls := "RainWheelLaw", name := "easiest", desc := "(LRainWheel;I[J)I" } : Jvm.MethodName)) ∈ lw_all := lw_g (lw_at lw_m6 77 rfl) rfl
theorem q1373 : (Jvm.Cond.codeWith ({ cls := "RainWheelLaw", name := "easiest", desc := "(LRainWheel;I[J)I" } : Jvm.MethodName) method_26_code (4 : Nat) (Option.some Jvm.ClassFile.FieldType.int) [((0 : Nat), (9 : Nat), (12 : Nat), (13 : Nat))]) ∈ lw_all := lw_g (lw_at lw_m6 78 rfl) rfl
theorem q1378 : (Jvm.Cond.methodLink "RainWheelLaw" (242 : Nat) ({ cls := "RainWheelLaw", name := "waits", desc := "(LRainWheel;IIII[J)I" } : Jvm.MethodName)) ∈ lw_all := lw_g (lw_at lw_m6 83 rfl) rfl
theorem q1379 : (Jvm.Cond.static ({ cls := "RainWheelLaw", name := "waits", desc := "(LRainWheel;IIII[J)I" } : Jvm.MethodName)) ∈ lw_all := lw_g (lw_at lw_m6 84 rfl) rfl
theorem q1380 : (Jvm.Cond.codeWith ({ cls := "RainWheelLaw", name := "waits", desc := "(LRainWheel;IIII[J)I" } : Jvm.MethodName) method_27_code (7 : Nat) (Option.some Jvm.ClassFile.FieldType.int) [((0 : Nat), (13 : Nat), (16 : Nat), (13 : Nat))]) ∈ lw_all := lw_g (lw_at lw_m6 85 rfl) rfl
theorem q1393 : (Jvm.Cond.methodLink "RainWheelLaw" (245 : Nat) ({ cls := "RainWheelLaw", name := "await", desc := "(LRainWheel;II[J)I" } : Jvm.MethodName)) ∈ lw_all := lw_g (lw_at lw_m6 98 rfl) rfl
theorem q1394 : (Jvm.Cond.static ({ cls := "RainWheelLaw", name := "await", desc := "(LRainWheel;II[J)I" } : Jvm.MethodName)) ∈ lw_all := lw_g (lw_at lw_m6 99 rfl) rfl
theorem q1395 : (Jvm.Cond.codeWith ({ cls := "RainWheelLaw", name := "await", desc := "(LRainWheel;II[J)I" } : Jvm.MethodName) method_28_code (5 : Nat) (Option.some Jvm.ClassFile.FieldType.int) [((0 : Nat), (10 : Nat), (13 : Nat), (13 : Nat))]) ∈ lw_all := lw_g (lw_at lw_m6 100 rfl) rfl
theorem q1400 : (Jvm.Cond.methodLink "RainWheelLaw" (248 : Nat) ({ cls := "RainWheelLaw", name := "cross", desc := "(LRainWheel;II[J)I" } : Jvm.MethodName)) ∈ lw_all := lw_g (lw_at lw_m6 105 rfl) rfl
theorem q1401 : (Jvm.Cond.static ({ cls := "RainWheelLaw", name := "cross", desc := "(LRainWheel;II[J)I" } : Jvm.MethodName)) ∈ lw_all := lw_g (lw_at lw_m6 106 rfl) rfl
theorem q1402 : (Jvm.Cond.codeWith ({ cls := "RainWheelLaw", name := "cross", desc := "(LRainWheel;II[J)I" } : Jvm.MethodName) method_29_code (5 : Nat) (Option.some Jvm.ClassFile.FieldType.int) [((0 : Nat), (10 : Nat), (13 : Nat), (13 : Nat))]) ∈ lw_all := lw_g (lw_at lw_m6 107 rfl) rfl
theorem q1420 : (Jvm.Cond.methodLink "RainWheelLaw" (251 : Nat) ({ cls := "RainWheelLaw", name := "crooked", desc := "(LRainWheel;I[J)I" } : Jvm.MethodName)) ∈ lw_all := lw_g (lw_at lw_m6 125 rfl) rfl
theorem q1421 : (Jvm.Cond.static ({ cls := "RainWheelLaw", name := "crooked", desc := "(LRainWheel;I[J)I" } : Jvm.MethodName)) ∈ lw_all := lw_g (lw_at lw_m6 126 rfl) rfl
theorem q1422 : (Jvm.Cond.codeWith ({ cls := "RainWheelLaw", name := "crooked", desc := "(LRainWheel;I[J)I" } : Jvm.MethodName) method_30_code (4 : Nat) (Option.some Jvm.ClassFile.FieldType.int) [((0 : Nat), (9 : Nat), (12 : Nat), (13 : Nat))]) ∈ lw_all := lw_g (lw_at lw_m6 127 rfl) rfl
theorem q1428 : (Jvm.Cond.methodLink "RainWheelLaw" (254 : Nat) ({ cls := "RainWheelLaw", name := "share", desc := "(LRainWheel;I[J)I" } : Jvm.MethodName)) ∈ lw_all := lw_g (lw_at lw_m6 133 rfl) rfl
theorem q1429 : (Jvm.Cond.static ({ cls := "RainWheelLaw", name := "share", desc := "(LRainWheel;I[J)I" } : Jvm.MethodName)) ∈ lw_all := lw_g (lw_at lw_m6 134 rfl) rfl
theorem q1430 : (Jvm.Cond.codeWith ({ cls := "RainWheelLaw", name := "share", desc := "(LRainWheel;I[J)I" } : Jvm.MethodName) method_31_code (4 : Nat) (Option.some Jvm.ClassFile.FieldType.int) [((0 : Nat), (9 : Nat), (12 : Nat), (13 : Nat))]) ∈ lw_all := lw_g (lw_at lw_m6 135 rfl) rfl
theorem q1435 : (Jvm.Cond.methodLink "RainWheelLaw" (257 : Nat) ({ cls := "RainWheelLaw", name := "drive", desc := "(LRainWheel;I[J)I" } : Jvm.MethodName)) ∈ lw_all := lw_g (lw_at lw_m6 140 rfl) rfl
theorem q1436 : (Jvm.Cond.static ({ cls := "RainWheelLaw", name := "drive", desc := "(LRainWheel;I[J)I" } : Jvm.MethodName)) ∈ lw_all := lw_g (lw_at lw_m6 141 rfl) rfl
theorem q1437 : (Jvm.Cond.codeWith ({ cls := "RainWheelLaw", name := "drive", desc := "(LRainWheel;I[J)I" } : Jvm.MethodName) method_32_code (4 : Nat) (Option.some Jvm.ClassFile.FieldType.int) [((0 : Nat), (9 : Nat), (12 : Nat), (13 : Nat))]) ∈ lw_all := lw_g (lw_at lw_m6 142 rfl) rfl
theorem q1453 : (Jvm.Cond.methodLink "RainWheelLaw" (260 : Nat) ({ cls := "RainWheelLaw", name := "pumps", desc := "(LRainWheel;I[J)I" } : Jvm.MethodName)) ∈ lw_all := lw_g (lw_at lw_m6 158 rfl) rfl
theorem q1454 : (Jvm.Cond.static ({ cls := "RainWheelLaw", name := "pumps", desc := "(LRainWheel;I[J)I" } : Jvm.MethodName)) ∈ lw_all := lw_g (lw_at lw_m6 159 rfl) rfl
theorem q1455 : (Jvm.Cond.codeWith ({ cls := "RainWheelLaw", name := "pumps", desc := "(LRainWheel;I[J)I" } : Jvm.MethodName) method_33_code (4 : Nat) (Option.some Jvm.ClassFile.FieldType.int) [((0 : Nat), (9 : Nat), (12 : Nat), (13 : Nat))]) ∈ lw_all := lw_g (lw_at lw_m6 160 rfl) rfl
theorem q1460 : (Jvm.Cond.methodLink "RainWheelLaw" (263 : Nat) ({ cls := "RainWheelLaw", name := "odds", desc := "(LRainWheel;II[J)I" } : Jvm.MethodName)) ∈ lw_all := lw_g (lw_at lw_m6 165 rfl) rfl
theorem q1461 : (Jvm.Cond.static ({ cls := "RainWheelLaw", name := "odds", desc := "(LRainWheel;II[J)I" } : Jvm.MethodName)) ∈ lw_all := lw_g (lw_at lw_m6 166 rfl) rfl
theorem q1462 : (Jvm.Cond.codeWith ({ cls := "RainWheelLaw", name := "odds", desc := "(LRainWheel;II[J)I" } : Jvm.MethodName) method_34_code (5 : Nat) (Option.some Jvm.ClassFile.FieldType.int) [((0 : Nat), (9 : Nat), (12 : Nat), (31 : Nat)), ((0 : Nat), (9 : Nat), (16 : Nat), (13 : Nat))]) ∈ lw_all := lw_g (lw_at lw_m6 167 rfl) rfl
theorem q1467 : (Jvm.Cond.methodLink "RainWheelLaw" (274 : Nat) ({ cls := "RainWheelLaw", name := "evening", desc := "(LRainWheel;II[J)I" } : Jvm.MethodName)) ∈ lw_all := lw_g (lw_at lw_m6 172 rfl) rfl
theorem q1468 : (Jvm.Cond.static ({ cls := "RainWheelLaw", name := "evening", desc := "(LRainWheel;II[J)I" } : Jvm.MethodName)) ∈ lw_all := lw_g (lw_at lw_m6 173 rfl) rfl
theorem q1469 : (Jvm.Cond.codeWith ({ cls := "RainWheelLaw", name := "evening", desc := "(LRainWheel;II[J)I" } : Jvm.MethodName) method_35_code (5 : Nat) (Option.some Jvm.ClassFile.FieldType.int) [((0 : Nat), (10 : Nat), (13 : Nat), (13 : Nat))]) ∈ lw_all := lw_g (lw_at lw_m6 174 rfl) rfl
theorem q1483 : (Jvm.Cond.methodLink "RainWheelLaw" (277 : Nat) ({ cls := "RainWheelLaw", name := "evenings", desc := "(LRainWheel;III[J)I" } : Jvm.MethodName)) ∈ lw_all := lw_g (lw_at lw_m6 188 rfl) rfl
theorem q1484 : (Jvm.Cond.static ({ cls := "RainWheelLaw", name := "evenings", desc := "(LRainWheel;III[J)I" } : Jvm.MethodName)) ∈ lw_all := lw_g (lw_at lw_m6 189 rfl) rfl
theorem q1485 : (Jvm.Cond.codeWith ({ cls := "RainWheelLaw", name := "evenings", desc := "(LRainWheel;III[J)I" } : Jvm.MethodName) method_36_code (6 : Nat) (Option.some Jvm.ClassFile.FieldType.int) [((0 : Nat), (12 : Nat), (15 : Nat), (13 : Nat))]) ∈ lw_all := lw_g (lw_at lw_m6 190 rfl) rfl
theorem q1490 : (Jvm.Cond.methodLink "RainWheelLaw" (280 : Nat) ({ cls := "RainWheelLaw", name := "swap", desc := "(LRainWheel;II[J)I" } : Jvm.MethodName)) ∈ lw_all := lw_g (lw_at lw_m6 195 rfl) rfl
theorem q1491 : (Jvm.Cond.static ({ cls := "RainWheelLaw", name := "swap", desc := "(LRainWheel;II[J)I" } : Jvm.MethodName)) ∈ lw_all := lw_g (lw_at lw_m6 196 rfl) rfl
theorem q1492 : (Jvm.Cond.codeWith ({ cls := "RainWheelLaw", name := "swap", desc := "(LRainWheel;II[J)I" } : Jvm.MethodName) method_37_code (5 : Nat) (Option.some Jvm.ClassFile.FieldType.int) [((0 : Nat), (10 : Nat), (13 : Nat), (31 : Nat))]) ∈ lw_all := lw_g (lw_at lw_m6 197 rfl) rfl
theorem q1508 : (Jvm.Cond.methodLink "RainWheelLaw" (283 : Nat) ({ cls := "RainWheelLaw", name := "hand", desc := "(LRainWheel;II[J)I" } : Jvm.MethodName)) ∈ lw_all := lw_g (lw_at lw_m6 213 rfl) rfl
theorem q1509 : (Jvm.Cond.static ({ cls := "RainWheelLaw", name := "hand", desc := "(LRainWheel;II[J)I" } : Jvm.MethodName)) ∈ lw_all := lw_g (lw_at lw_m6 214 rfl) rfl
theorem q1510 : (Jvm.Cond.codeWith ({ cls := "RainWheelLaw", name := "hand", desc := "(LRainWheel;II[J)I" } : Jvm.MethodName) method_38_code (5 : Nat) (Option.some Jvm.ClassFile.FieldType.int) [((0 : Nat), (10 : Nat), (13 : Nat), (31 : Nat)), ((0 : Nat), (10 : Nat), (17 : Nat), (13 : Nat))]) ∈ lw_all := lw_g (lw_at lw_m6 215 rfl) rfl
theorem q1515 : (Jvm.Cond.methodLink "RainWheelLaw" (286 : Nat) ({ cls := "RainWheelLaw", name := "drop", desc := "(LRainWheel;I[J)I" } : Jvm.MethodName)) ∈ lw_all := lw_g (lw_at lw_m6 220 rfl) rfl
theorem q1516 : (Jvm.Cond.static ({ cls := "RainWheelLaw", name := "drop", desc := "(LRainWheel;I[J)I" } : Jvm.MethodName)) ∈ lw_all := lw_g (lw_at lw_m6 221 rfl) rfl
theorem q1517 : (Jvm.Cond.codeWith ({ cls := "RainWheelLaw", name := "drop", desc := "(LRainWheel;I[J)I" } : Jvm.MethodName) method_39_code (4 : Nat) (Option.some Jvm.ClassFile.FieldType.int) [((0 : Nat), (9 : Nat), (12 : Nat), (31 : Nat))]) ∈ lw_all := lw_g (lw_at lw_m6 222 rfl) rfl
theorem q1526 : (Jvm.Cond.methodLink "RainWheelLaw" (149 : Nat) ({ cls := "RainWheelModel", name := "thrown", desc := "()I" } : Jvm.MethodName)) ∈ lw_all := lw_g (lw_at lw_m6 231 rfl) rfl
theorem q1769 : (Jvm.Cond.methodLink "RainWheelLaw" (142 : Nat) ({ cls := "RainWheelModel", name := "feed", desc := "(IIIII)I" } : Jvm.MethodName)) ∈ lw_all := lw_g (lw_at lw_m7 234 rfl) rfl
theorem q1773 : (Jvm.Cond.methodLink "RainWheelLaw" (165 : Nat) ({ cls := "RainWheelModel", name := "fault", desc := "()I" } : Jvm.MethodName)) ∈ lw_all := lw_g (lw_at lw_m7 238 rfl) rfl
theorem q1777 : (Jvm.Cond.methodLink "RainWheelLaw" (148 : Nat) ({ cls := "RainWheelModel", name := "road", desc := "(I)I" } : Jvm.MethodName)) ∈ lw_all := lw_g (lw_at lw_m8 2 rfl) rfl
theorem q1866 : (Jvm.Cond.methodLink "RainWheelLaw" (155 : Nat) ({ cls := "RainWheelModel", name := "law", desc := "(I)I" } : Jvm.MethodName)) ∈ lw_all := lw_g (lw_at lw_m8 91 rfl) rfl
theorem q1909 : (Jvm.Cond.methodLink "RainWheelLaw" (158 : Nat) ({ cls := "RainWheelModel", name := "plan", desc := "(I)I" } : Jvm.MethodName)) ∈ lw_all := lw_g (lw_at lw_m8 134 rfl) rfl
theorem q1917 : (Jvm.Cond.methodLink "RainWheelLaw" (161 : Nat) ({ cls := "RainWheelModel", name := "book", desc := "(I)I" } : Jvm.MethodName)) ∈ lw_all := lw_g (lw_at lw_m8 142 rfl) rfl
theorem q1921 : (Jvm.Cond.methodLink "RainWheelLaw" (168 : Nat) ({ cls := "RainWheelModel", name := "told", desc := "(I)I" } : Jvm.MethodName)) ∈ lw_all := lw_g (lw_at lw_m8 146 rfl) rfl
theorem q1928 : (Jvm.Cond.methodLink "RainWheelLaw" (172 : Nat) ({ cls := "RainWheelModel", name := "deed", desc := "(II)I" } : Jvm.MethodName)) ∈ lw_all := lw_g (lw_at lw_m8 153 rfl) rfl
theorem q1936 : (Jvm.Cond.methodLink "RainWheelLaw" (175 : Nat) ({ cls := "RainWheelModel", name := "strong", desc := "(I)I" } : Jvm.MethodName)) ∈ lw_all := lw_g (lw_at lw_m8 161 rfl) rfl
theorem q1944 : (Jvm.Cond.methodLink "RainWheelLaw" (178 : Nat) ({ cls := "RainWheelModel", name := "bears", desc := "(I)I" } : Jvm.MethodName)) ∈ lw_all := lw_g (lw_at lw_m8 169 rfl) rfl
theorem q1948 : (Jvm.Cond.methodLink "RainWheelLaw" (181 : Nat) ({ cls := "RainWheelModel", name := "rains", desc := "(I)Z" } : Jvm.MethodName)) ∈ lw_all := lw_g (lw_at lw_m8 173 rfl) rfl
theorem q1952 : (Jvm.Cond.methodLink "RainWheelLaw" (185 : Nat) ({ cls := "RainWheelModel", name := "would", desc := "(IIIIII)I" } : Jvm.MethodName)) ∈ lw_all := lw_g (lw_at lw_m8 177 rfl) rfl
theorem q1967 : (Jvm.Cond.methodLink "RainWheelLaw" (188 : Nat) ({ cls := "RainWheelModel", name := "line", desc := "(II)I" } : Jvm.MethodName)) ∈ lw_all := lw_g (lw_at lw_m8 192 rfl) rfl
theorem q2012 : (Jvm.Cond.methodLink "RainWheelLaw" (192 : Nat) ({ cls := "RainWheelModel", name := "span", desc := "()I" } : Jvm.MethodName)) ∈ lw_all := lw_g (lw_at lw_m8 237 rfl) rfl
theorem q2016 : (Jvm.Cond.methodLink "RainWheelLaw" (195 : Nat) ({ cls := "RainWheelModel", name := "wet", desc := "(I)I" } : Jvm.MethodName)) ∈ lw_all := lw_g (lw_at lw_m9 1 rfl) rfl
theorem q2020 : (Jvm.Cond.methodLink "RainWheelLaw" (198 : Nat) ({ cls := "RainWheelModel", name := "idle", desc := "(I)I" } : Jvm.MethodName)) ∈ lw_all := lw_g (lw_at lw_m9 5 rfl) rfl
theorem q2024 : (Jvm.Cond.methodLink "RainWheelLaw" (202 : Nat) ({ cls := "RainWheelModel", name := "umbrella", desc := "()I" } : Jvm.MethodName)) ∈ lw_all := lw_g (lw_at lw_m9 9 rfl) rfl
theorem q2028 : (Jvm.Cond.methodLink "RainWheelLaw" (205 : Nat) ({ cls := "RainWheelModel", name := "slack", desc := "(I)I" } : Jvm.MethodName)) ∈ lw_all := lw_g (lw_at lw_m9 13 rfl) rfl
theorem q2036 : (Jvm.Cond.methodLink "RainWheelLaw" (209 : Nat) ({ cls := "RainWheelModel", name := "urgent", desc := "()I" } : Jvm.MethodName)) ∈ lw_all := lw_g (lw_at lw_m9 21 rfl) rfl
theorem q2040 : (Jvm.Cond.methodLink "RainWheelLaw" (212 : Nat) ({ cls := "RainWheelModel", name := "ahead", desc := "(I)I" } : Jvm.MethodName)) ∈ lw_all := lw_g (lw_at lw_m9 25 rfl) rfl
theorem q2044 : (Jvm.Cond.methodLink "RainWheelLaw" (215 : Nat) ({ cls := "RainWheelModel", name := "chain", desc := "(I)I" } : Jvm.MethodName)) ∈ lw_all := lw_g (lw_at lw_m9 29 rfl) rfl
theorem q2048 : (Jvm.Cond.methodLink "RainWheelLaw" (218 : Nat) ({ cls := "RainWheelModel", name := "soonest", desc := "(I)I" } : Jvm.MethodName)) ∈ lw_all := lw_g (lw_at lw_m9 33 rfl) rfl
theorem q2061 : (Jvm.Cond.methodLink "RainWheelLaw" (221 : Nat) ({ cls := "RainWheelModel", name := "first", desc := "(I)I" } : Jvm.MethodName)) ∈ lw_all := lw_g (lw_at lw_m9 46 rfl) rfl
theorem q2065 : (Jvm.Cond.methodLink "RainWheelLaw" (225 : Nat) ({ cls := "RainWheelModel", name := "sinks", desc := "(III)I" } : Jvm.MethodName)) ∈ lw_all := lw_g (lw_at lw_m9 50 rfl) rfl
theorem q2083 : (Jvm.Cond.methodLink "RainWheelLaw" (228 : Nat) ({ cls := "RainWheelModel", name := "under", desc := "(III)I" } : Jvm.MethodName)) ∈ lw_all := lw_g (lw_at lw_m9 68 rfl) rfl
theorem q2087 : (Jvm.Cond.methodLink "RainWheelLaw" (232 : Nat) ({ cls := "RainWheelModel", name := "push", desc := "(IIII)I" } : Jvm.MethodName)) ∈ lw_all := lw_g (lw_at lw_m9 72 rfl) rfl
theorem q2091 : (Jvm.Cond.methodLink "RainWheelLaw" (235 : Nat) ({ cls := "RainWheelModel", name := "tries", desc := "(IIII)J" } : Jvm.MethodName)) ∈ lw_all := lw_g (lw_at lw_m9 76 rfl) rfl
theorem q2114 : (Jvm.Cond.methodLink "RainWheelLaw" (238 : Nat) ({ cls := "RainWheelModel", name := "half", desc := "(II)I" } : Jvm.MethodName)) ∈ lw_all := lw_g (lw_at lw_m9 99 rfl) rfl
theorem q2119 : (Jvm.Cond.methodLink "RainWheelLaw" (241 : Nat) ({ cls := "RainWheelModel", name := "easiest", desc := "(I)I" } : Jvm.MethodName)) ∈ lw_all := lw_g (lw_at lw_m9 104 rfl) rfl
theorem q2123 : (Jvm.Cond.methodLink "RainWheelLaw" (244 : Nat) ({ cls := "RainWheelModel", name := "waits", desc := "(IIII)J" } : Jvm.MethodName)) ∈ lw_all := lw_g (lw_at lw_m9 108 rfl) rfl
theorem q2131 : (Jvm.Cond.methodLink "RainWheelLaw" (247 : Nat) ({ cls := "RainWheelModel", name := "await", desc := "(II)I" } : Jvm.MethodName)) ∈ lw_all := lw_g (lw_at lw_m9 116 rfl) rfl
theorem q2135 : (Jvm.Cond.methodLink "RainWheelLaw" (250 : Nat) ({ cls := "RainWheelModel", name := "cross", desc := "(II)I" } : Jvm.MethodName)) ∈ lw_all := lw_g (lw_at lw_m9 120 rfl) rfl
theorem q2147 : (Jvm.Cond.methodLink "RainWheelLaw" (253 : Nat) ({ cls := "RainWheelModel", name := "crooked", desc := "(I)I" } : Jvm.MethodName)) ∈ lw_all := lw_g (lw_at lw_m9 132 rfl) rfl
theorem q2152 : (Jvm.Cond.methodLink "RainWheelLaw" (256 : Nat) ({ cls := "RainWheelModel", name := "share", desc := "(I)I" } : Jvm.MethodName)) ∈ lw_all := lw_g (lw_at lw_m9 137 rfl) rfl
theorem q2156 : (Jvm.Cond.methodLink "RainWheelLaw" (259 : Nat) ({ cls := "RainWheelModel", name := "drive", desc := "(I)I" } : Jvm.MethodName)) ∈ lw_all := lw_g (lw_at lw_m9 141 rfl) rfl
theorem q2169 : (Jvm.Cond.methodLink "RainWheelLaw" (262 : Nat) ({ cls := "RainWheelModel", name := "pumps", desc := "(I)I" } : Jvm.MethodName)) ∈ lw_all := lw_g (lw_at lw_m9 154 rfl) rfl
theorem q2173 : (Jvm.Cond.methodLink "RainWheelLaw" (265 : Nat) ({ cls := "RainWheelModel", name := "odds", desc := "(II)J" } : Jvm.MethodName)) ∈ lw_all := lw_g (lw_at lw_m9 158 rfl) rfl
theorem q2181 : (Jvm.Cond.methodLink "RainWheelLaw" (269 : Nat) ({ cls := "RainWheelModel", name := "likeliest", desc := "()I" } : Jvm.MethodName)) ∈ lw_all := lw_g (lw_at lw_m9 166 rfl) rfl
theorem q2189 : (Jvm.Cond.methodLink "RainWheelLaw" (273 : Nat) ({ cls := "RainWheelModel", name := "ask", desc := "()I" } : Jvm.MethodName)) ∈ lw_all := lw_g (lw_at lw_m9 174 rfl) rfl
theorem q2193 : (Jvm.Cond.methodLink "RainWheelLaw" (276 : Nat) ({ cls := "RainWheelModel", name := "evening", desc := "(II)I" } : Jvm.MethodName)) ∈ lw_all := lw_g (lw_at lw_m9 178 rfl) rfl
theorem q2201 : (Jvm.Cond.methodLink "RainWheelLaw" (279 : Nat) ({ cls := "RainWheelModel", name := "evenings", desc := "(III)I" } : Jvm.MethodName)) ∈ lw_all := lw_g (lw_at lw_m9 186 rfl) rfl
theorem q2205 : (Jvm.Cond.methodLink "RainWheelLaw" (282 : Nat) ({ cls := "RainWheelModel", name := "swap", desc := "(II)I" } : Jvm.MethodName)) ∈ lw_all := lw_g (lw_at lw_m9 190 rfl) rfl
theorem q2217 : (Jvm.Cond.methodLink "RainWheelLaw" (285 : Nat) ({ cls := "RainWheelModel", name := "hand", desc := "(II)I" } : Jvm.MethodName)) ∈ lw_all := lw_g (lw_at lw_m9 202 rfl) rfl
theorem q2221 : (Jvm.Cond.methodLink "RainWheelLaw" (288 : Nat) ({ cls := "RainWheelModel", name := "drop", desc := "(I)I" } : Jvm.MethodName)) ∈ lw_all := lw_g (lw_at lw_m9 206 rfl) rfl
theorem q2225 : (Jvm.Cond.methodLink "RainWheelLaw" (292 : Nat) ({ cls := "RainWheelModel", name := "undo", desc := "()I" } : Jvm.MethodName)) ∈ lw_all := lw_g (lw_at lw_m9 210 rfl) rfl
theorem q2233 : (Jvm.Cond.methodLink "RainWheelLaw" (296 : Nat) ({ cls := "RainWheelModel", name := "image", desc := "()I" } : Jvm.MethodName)) ∈ lw_all := lw_g (lw_at lw_m9 218 rfl) rfl
theorem q2237 : (Jvm.Cond.methodLink "RainWheelLaw" (300 : Nat) ({ cls := "RainWheelModel", name := "restore", desc := "()I" } : Jvm.MethodName)) ∈ lw_all := lw_g (lw_at lw_m9 222 rfl) rfl
theorem q2241 : (Jvm.Cond.methodLink "RainWheelLaw" (304 : Nat) ({ cls := "RainWheelModel", name := "status", desc := "(I)I" } : Jvm.MethodName)) ∈ lw_all := lw_g (lw_at lw_m9 226 rfl) rfl
theorem q2245 : (Jvm.Cond.methodLink "RainWheelLaw" (308 : Nat) ({ cls := "RainWheelModel", name := "count", desc := "(I)I" } : Jvm.MethodName)) ∈ lw_all := lw_g (lw_at lw_m9 230 rfl) rfl
theorem q532 : (Jvm.Cond.methodLink "RainWheelLaw" (138 : Nat) ({ cls := "RainWheel", name := "feed", desc := "(IIIII)I" } : Jvm.MethodName)) ∈ lw_all := lw_g (lw_at lw_m2 197 rfl) rfl
theorem q536 : (Jvm.Cond.methodLink "RainWheelLaw" (162 : Nat) ({ cls := "RainWheel", name := "fault", desc := "()I" } : Jvm.MethodName)) ∈ lw_all := lw_g (lw_at lw_m2 201 rfl) rfl
theorem q540 : (Jvm.Cond.methodLink "RainWheelLaw" (189 : Nat) ({ cls := "RainWheel", name := "span", desc := "()I" } : Jvm.MethodName)) ∈ lw_all := lw_g (lw_at lw_m2 205 rfl) rfl
theorem q642 : (Jvm.Cond.methodLink "RainWheelLaw" (199 : Nat) ({ cls := "RainWheel", name := "umbrella", desc := "()I" } : Jvm.MethodName)) ∈ lw_all := lw_g (lw_at lw_m3 67 rfl) rfl
theorem q646 : (Jvm.Cond.methodLink "RainWheelLaw" (206 : Nat) ({ cls := "RainWheel", name := "urgent", desc := "()I" } : Jvm.MethodName)) ∈ lw_all := lw_g (lw_at lw_m3 71 rfl) rfl
theorem q662 : (Jvm.Cond.methodLink "RainWheelLaw" (266 : Nat) ({ cls := "RainWheel", name := "likeliest", desc := "()I" } : Jvm.MethodName)) ∈ lw_all := lw_g (lw_at lw_m3 87 rfl) rfl
theorem q670 : (Jvm.Cond.methodLink "RainWheelLaw" (270 : Nat) ({ cls := "RainWheel", name := "ask", desc := "()I" } : Jvm.MethodName)) ∈ lw_all := lw_g (lw_at lw_m3 95 rfl) rfl
theorem q679 : (Jvm.Cond.methodLink "RainWheelLaw" (289 : Nat) ({ cls := "RainWheel", name := "undo", desc := "()I" } : Jvm.MethodName)) ∈ lw_all := lw_g (lw_at lw_m3 104 rfl) rfl
theorem q690 : (Jvm.Cond.methodLink "RainWheelLaw" (293 : Nat) ({ cls := "RainWheel", name := "image", desc := "()I" } : Jvm.MethodName)) ∈ lw_all := lw_g (lw_at lw_m3 115 rfl) rfl
theorem q694 : (Jvm.Cond.methodLink "RainWheelLaw" (297 : Nat) ({ cls := "RainWheel", name := "restore", desc := "()I" } : Jvm.MethodName)) ∈ lw_all := lw_g (lw_at lw_m3 119 rfl) rfl
theorem q698 : (Jvm.Cond.methodLink "RainWheelLaw" (301 : Nat) ({ cls := "RainWheel", name := "status", desc := "(I)I" } : Jvm.MethodName)) ∈ lw_all := lw_g (lw_at lw_m3 123 rfl) rfl
theorem q702 : (Jvm.Cond.methodLink "RainWheelLaw" (305 : Nat) ({ cls := "RainWheel", name := "count", desc := "(I)I" } : Jvm.MethodName)) ∈ lw_all := lw_g (lw_at lw_m3 127 rfl) rfl
theorem q706 : (Jvm.Cond.methodLink "RainWheelLaw" (143 : Nat) ({ cls := "RainWheelLaw", name := "road", desc := "(LRainWheel;I[J)I" } : Jvm.MethodName)) ∈ lw_all := lw_g (lw_at lw_m3 131 rfl) rfl
theorem q707 : (Jvm.Cond.static ({ cls := "RainWheelLaw", name := "road", desc := "(LRainWheel;I[J)I" } : Jvm.MethodName)) ∈ lw_all := lw_g (lw_at lw_m3 132 rfl) rfl
theorem q708 : (Jvm.Cond.codeWith ({ cls := "RainWheelLaw", name := "road", desc := "(LRainWheel;I[J)I" } : Jvm.MethodName) method_3_code (4 : Nat) (Option.some Jvm.ClassFile.FieldType.int) [((0 : Nat), (9 : Nat), (12 : Nat), (13 : Nat))]) ∈ lw_all := lw_g (lw_at lw_m3 133 rfl) rfl
theorem q95 : (Jvm.Cond.initialized "RainWheelLaw") ∈ lw_all := lw_g (lw_at lw_m1 0 rfl) rfl
theorem q990 : (Jvm.Cond.methodLink "RainWheelLaw" (153 : Nat) ({ cls := "RainWheelLaw", name := "law", desc := "(LRainWheel;I[J)I" } : Jvm.MethodName)) ∈ lw_all := lw_g (lw_at lw_m4 175 rfl) rfl
theorem q991 : (Jvm.Cond.static ({ cls := "RainWheelLaw", name := "law", desc := "(LRainWheel;I[J)I" } : Jvm.MethodName)) ∈ lw_all := lw_g (lw_at lw_m4 176 rfl) rfl
theorem q992 : (Jvm.Cond.codeWith ({ cls := "RainWheelLaw", name := "law", desc := "(LRainWheel;I[J)I" } : Jvm.MethodName) method_4_code (4 : Nat) (Option.some Jvm.ClassFile.FieldType.int) [((0 : Nat), (9 : Nat), (12 : Nat), (13 : Nat))]) ∈ lw_all := lw_g (lw_at lw_m4 177 rfl) rfl
theorem gwM_feed_138 : GoodIn lw_all (wsV RX0 138 RX1 yX1_feed (ws_ yX1_feed cX1_feed 8 (some .int))) := lw_V q532 q533 q534 q96 q535
theorem hdM_feed : yX1_feed.cls = RX1 ∧ yX1_feed.cls ≠ "java/lang/invoke/MethodHandle" ∧ yX1_feed.cls ≠ "java/lang/invoke/VarHandle" ∧ (parseMethodDescriptor yX1_feed.desc).map (fun d => d.parameters.length) = some 5 := by decide +kernel
theorem gwN_feed_142 : GoodIn lw_all (wsV RX0 142 RX10 yX10_feed (ws_ yX10_feed cX10_feed 8 (some .int))) := lw_V q1769 q1770 q1771 q105 q1772
theorem hdN_feed : yX10_feed.cls = RX10 ∧ yX10_feed.cls ≠ "java/lang/invoke/MethodHandle" ∧ yX10_feed.cls ≠ "java/lang/invoke/VarHandle" ∧ (parseMethodDescriptor yX10_feed.desc).map (fun d => d.parameters.length) = some 5 := by decide +kernel
theorem gwL_road_143 : GoodIn lw_all (va_wsS RX0 143 yX0_road (wsW_ yX0_road cX0_road 4 (some .int) [(0, 9, 12, 13)])) := lw_SW q706 q707 q95 q708
theorem hdL_road : yX0_road.cls ≠ "java/lang/invoke/MethodHandle" ∧ yX0_road.cls ≠ "java/lang/invoke/VarHandle" ∧ (parseMethodDescriptor yX0_road.desc).map (fun d => d.parameters.length) = some 3 := by decide +kernel
theorem gwN_road_148 : GoodIn lw_all (wsV RX0 148 RX10 yX10_road (ws_ yX10_road cX10_road 4 (some .int))) := lw_V q1777 q1778 q1779 q105 q1780
theorem hdN_road : yX10_road.cls = RX10 ∧ yX10_road.cls ≠ "java/lang/invoke/MethodHandle" ∧ yX10_road.cls ≠ "java/lang/invoke/VarHandle" ∧ (parseMethodDescriptor yX10_road.desc).map (fun d => d.parameters.length) = some 1 := by decide +kernel
theorem gwN_thrown_149 : GoodIn lw_all (wsV RX0 149 RX10 yX10_thrown (ws_ yX10_thrown cX10_thrown 1 (some .int))) := lw_V q1526 q1527 q1528 q105 q1529
theorem hdN_thrown : yX10_thrown.cls = RX10 ∧ yX10_thrown.cls ≠ "java/lang/invoke/MethodHandle" ∧ yX10_thrown.cls ≠ "java/lang/invoke/VarHandle" ∧ (parseMethodDescriptor yX10_thrown.desc).map (fun d => d.parameters.length) = some 0 := by decide +kernel
theorem gwL_law_153 : GoodIn lw_all (va_wsS RX0 153 yX0_law (wsW_ yX0_law cX0_law 4 (some .int) [(0, 9, 12, 13)])) := lw_SW q990 q991 q95 q992
theorem hdL_law : yX0_law.cls ≠ "java/lang/invoke/MethodHandle" ∧ yX0_law.cls ≠ "java/lang/invoke/VarHandle" ∧ (parseMethodDescriptor yX0_law.desc).map (fun d => d.parameters.length) = some 3 := by decide +kernel
theorem gwN_law_155 : GoodIn lw_all (wsV RX0 155 RX10 yX10_law (ws_ yX10_law cX10_law 3 (some .int))) := lw_V q1866 q1867 q1868 q105 q1869
theorem hdN_law : yX10_law.cls = RX10 ∧ yX10_law.cls ≠ "java/lang/invoke/MethodHandle" ∧ yX10_law.cls ≠ "java/lang/invoke/VarHandle" ∧ (parseMethodDescriptor yX10_law.desc).map (fun d => d.parameters.length) = some 1 := by decide +kernel
theorem gwL_plan_156 : GoodIn lw_all (va_wsS RX0 156 yX0_plan (wsW_ yX0_plan cX0_plan 4 (some .int) [(0, 9, 12, 13)])) := lw_SW q1094 q1095 q95 q1096
theorem hdL_plan : yX0_plan.cls ≠ "java/lang/invoke/MethodHandle" ∧ yX0_plan.cls ≠ "java/lang/invoke/VarHandle" ∧ (parseMethodDescriptor yX0_plan.desc).map (fun d => d.parameters.length) = some 3 := by decide +kernel
theorem gwN_plan_158 : GoodIn lw_all (wsV RX0 158 RX10 yX10_plan (ws_ yX10_plan cX10_plan 7 (some .int))) := lw_V q1909 q1910 q1911 q105 q1912
theorem hdN_plan : yX10_plan.cls = RX10 ∧ yX10_plan.cls ≠ "java/lang/invoke/MethodHandle" ∧ yX10_plan.cls ≠ "java/lang/invoke/VarHandle" ∧ (parseMethodDescriptor yX10_plan.desc).map (fun d => d.parameters.length) = some 1 := by decide +kernel
theorem gwL_book_159 : GoodIn lw_all (va_wsS RX0 159 yX0_book (wsW_ yX0_book cX0_book 4 (some .int) [(0, 9, 12, 13)])) := lw_SW q1112 q1113 q95 q1114
theorem hdL_book : yX0_book.cls ≠ "java/lang/invoke/MethodHandle" ∧ yX0_book.cls ≠ "java/lang/invoke/VarHandle" ∧ (parseMethodDescriptor yX0_book.desc).map (fun d => d.parameters.length) = some 3 := by decide +kernel
theorem gwN_book_161 : GoodIn lw_all (wsV RX0 161 RX10 yX10_book (ws_ yX10_book cX10_book 6 (some .int))) := lw_V q1917 q1918 q1919 q105 q1920
theorem hdN_book : yX10_book.cls = RX10 ∧ yX10_book.cls ≠ "java/lang/invoke/MethodHandle" ∧ yX10_book.cls ≠ "java/lang/invoke/VarHandle" ∧ (parseMethodDescriptor yX10_book.desc).map (fun d => d.parameters.length) = some 1 := by decide +kernel
theorem gwM_fault_162 : GoodIn lw_all (wsV RX0 162 RX1 yX1_fault (ws_ yX1_fault cX1_fault 1 (some .int))) := lw_V q536 q537 q538 q96 q539
theorem hdM_fault : yX1_fault.cls = RX1 ∧ yX1_fault.cls ≠ "java/lang/invoke/MethodHandle" ∧ yX1_fault.cls ≠ "java/lang/invoke/VarHandle" ∧ (parseMethodDescriptor yX1_fault.desc).map (fun d => d.parameters.length) = some 0 := by decide +kernel
theorem gwN_fault_165 : GoodIn lw_all (wsV RX0 165 RX10 yX10_fault (ws_ yX10_fault cX10_fault 1 (some .int))) := lw_V q1773 q1774 q1775 q105 q1776
theorem hdN_fault : yX10_fault.cls = RX10 ∧ yX10_fault.cls ≠ "java/lang/invoke/MethodHandle" ∧ yX10_fault.cls ≠ "java/lang/invoke/VarHandle" ∧ (parseMethodDescriptor yX10_fault.desc).map (fun d => d.parameters.length) = some 0 := by decide +kernel
theorem gwL_told_166 : GoodIn lw_all (va_wsS RX0 166 yX0_told (wsW_ yX0_told cX0_told 4 (some .int) [(0, 9, 12, 13)])) := lw_SW q1125 q1126 q95 q1127
theorem hdL_told : yX0_told.cls ≠ "java/lang/invoke/MethodHandle" ∧ yX0_told.cls ≠ "java/lang/invoke/VarHandle" ∧ (parseMethodDescriptor yX0_told.desc).map (fun d => d.parameters.length) = some 3 := by decide +kernel
theorem gwN_told_168 : GoodIn lw_all (wsV RX0 168 RX10 yX10_told (ws_ yX10_told cX10_told 2 (some .int))) := lw_V q1921 q1922 q1923 q105 q1924
theorem hdN_told : yX10_told.cls = RX10 ∧ yX10_told.cls ≠ "java/lang/invoke/MethodHandle" ∧ yX10_told.cls ≠ "java/lang/invoke/VarHandle" ∧ (parseMethodDescriptor yX10_told.desc).map (fun d => d.parameters.length) = some 1 := by decide +kernel
theorem gwL_deed_169 : GoodIn lw_all (va_wsS RX0 169 yX0_deed (wsW_ yX0_deed cX0_deed 5 (some .int) [(0, 10, 13, 31), (0, 10, 17, 13)])) := lw_SW q1132 q1133 q95 q1134
theorem hdL_deed : yX0_deed.cls ≠ "java/lang/invoke/MethodHandle" ∧ yX0_deed.cls ≠ "java/lang/invoke/VarHandle" ∧ (parseMethodDescriptor yX0_deed.desc).map (fun d => d.parameters.length) = some 4 := by decide +kernel
theorem gwN_deed_172 : GoodIn lw_all (wsV RX0 172 RX10 yX10_deed (ws_ yX10_deed cX10_deed 3 (some .int))) := lw_V q1928 q1929 q1930 q105 q1931
theorem hdN_deed : yX10_deed.cls = RX10 ∧ yX10_deed.cls ≠ "java/lang/invoke/MethodHandle" ∧ yX10_deed.cls ≠ "java/lang/invoke/VarHandle" ∧ (parseMethodDescriptor yX10_deed.desc).map (fun d => d.parameters.length) = some 2 := by decide +kernel
theorem gwL_strong_173 : GoodIn lw_all (va_wsS RX0 173 yX0_strong (wsW_ yX0_strong cX0_strong 4 (some .int) [(0, 9, 12, 31)])) := lw_SW q1163 q1164 q95 q1165
theorem hdL_strong : yX0_strong.cls ≠ "java/lang/invoke/MethodHandle" ∧ yX0_strong.cls ≠ "java/lang/invoke/VarHandle" ∧ (parseMethodDescriptor yX0_strong.desc).map (fun d => d.parameters.length) = some 3 := by decide +kernel
theorem gwN_strong_175 : GoodIn lw_all (wsV RX0 175 RX10 yX10_strong (ws_ yX10_strong cX10_strong 2 (some .int))) := lw_V q1936 q1937 q1938 q105 q1939
theorem hdN_strong : yX10_strong.cls = RX10 ∧ yX10_strong.cls ≠ "java/lang/invoke/MethodHandle" ∧ yX10_strong.cls ≠ "java/lang/invoke/VarHandle" ∧ (parseMethodDescriptor yX10_strong.desc).map (fun d => d.parameters.length) = some 1 := by decide +kernel
theorem gwL_bears_176 : GoodIn lw_all (va_wsS RX0 176 yX0_bears (wsW_ yX0_bears cX0_bears 4 (some .int) [(0, 9, 12, 13)])) := lw_SW q1174 q1175 q95 q1176
theorem hdL_bears : yX0_bears.cls ≠ "java/lang/invoke/MethodHandle" ∧ yX0_bears.cls ≠ "java/lang/invoke/VarHandle" ∧ (parseMethodDescriptor yX0_bears.desc).map (fun d => d.parameters.length) = some 3 := by decide +kernel
theorem gwN_bears_178 : GoodIn lw_all (wsV RX0 178 RX10 yX10_bears (ws_ yX10_bears cX10_bears 2 (some .int))) := lw_V q1944 q1945 q1946 q105 q1947
theorem hdN_bears : yX10_bears.cls = RX10 ∧ yX10_bears.cls ≠ "java/lang/invoke/MethodHandle" ∧ yX10_bears.cls ≠ "java/lang/invoke/VarHandle" ∧ (parseMethodDescriptor yX10_bears.desc).map (fun d => d.parameters.length) = some 1 := by decide +kernel
theorem gwL_rains_179 : GoodIn lw_all (va_wsS RX0 179 yX0_rains (wsW_ yX0_rains cX0_rains 4 (some .int) [(0, 16, 19, 13)])) := lw_SW q1181 q1182 q95 q1183
theorem hdL_rains : yX0_rains.cls ≠ "java/lang/invoke/MethodHandle" ∧ yX0_rains.cls ≠ "java/lang/invoke/VarHandle" ∧ (parseMethodDescriptor yX0_rains.desc).map (fun d => d.parameters.length) = some 3 := by decide +kernel
theorem gwN_rains_181 : GoodIn lw_all (wsV RX0 181 RX10 yX10_rains (ws_ yX10_rains cX10_rains 2 (some .boolean))) := lw_V q1948 q1949 q1950 q105 q1951
theorem hdN_rains : yX10_rains.cls = RX10 ∧ yX10_rains.cls ≠ "java/lang/invoke/MethodHandle" ∧ yX10_rains.cls ≠ "java/lang/invoke/VarHandle" ∧ (parseMethodDescriptor yX10_rains.desc).map (fun d => d.parameters.length) = some 1 := by decide +kernel
theorem gwL_would_182 : GoodIn lw_all (va_wsS RX0 182 yX0_would (wsW_ yX0_would cX0_would 9 (some .int) [(0, 18, 21, 13)])) := lw_SW q1189 q1190 q95 q1191
theorem hdL_would : yX0_would.cls ≠ "java/lang/invoke/MethodHandle" ∧ yX0_would.cls ≠ "java/lang/invoke/VarHandle" ∧ (parseMethodDescriptor yX0_would.desc).map (fun d => d.parameters.length) = some 8 := by decide +kernel
theorem gwN_would_185 : GoodIn lw_all (wsV RX0 185 RX10 yX10_would (ws_ yX10_would cX10_would 7 (some .int))) := lw_V q1952 q1953 q1954 q105 q1955
theorem hdN_would : yX10_would.cls = RX10 ∧ yX10_would.cls ≠ "java/lang/invoke/MethodHandle" ∧ yX10_would.cls ≠ "java/lang/invoke/VarHandle" ∧ (parseMethodDescriptor yX10_would.desc).map (fun d => d.parameters.length) = some 6 := by decide +kernel
theorem gwL_line_186 : GoodIn lw_all (va_wsS RX0 186 yX0_line (wsW_ yX0_line cX0_line 5 (some .int) [(0, 10, 13, 31), (0, 10, 17, 13)])) := lw_SW q1199 q1200 q95 q1201
theorem hdL_line : yX0_line.cls ≠ "java/lang/invoke/MethodHandle" ∧ yX0_line.cls ≠ "java/lang/invoke/VarHandle" ∧ (parseMethodDescriptor yX0_line.desc).map (fun d => d.parameters.length) = some 4 := by decide +kernel
theorem gwN_line_188 : GoodIn lw_all (wsV RX0 188 RX10 yX10_line (ws_ yX10_line cX10_line 3 (some .int))) := lw_V q1967 q1968 q1969 q105 q1970
theorem hdN_line : yX10_line.cls = RX10 ∧ yX10_line.cls ≠ "java/lang/invoke/MethodHandle" ∧ yX10_line.cls ≠ "java/lang/invoke/VarHandle" ∧ (parseMethodDescriptor yX10_line.desc).map (fun d => d.parameters.length) = some 2 := by decide +kernel
theorem gwM_span_189 : GoodIn lw_all (wsV RX0 189 RX1 yX1_span (ws_ yX1_span cX1_span 1 (some .int))) := lw_V q540 q541 q542 q96 q543
theorem hdM_span : yX1_span.cls = RX1 ∧ yX1_span.cls ≠ "java/lang/invoke/MethodHandle" ∧ yX1_span.cls ≠ "java/lang/invoke/VarHandle" ∧ (parseMethodDescriptor yX1_span.desc).map (fun d => d.parameters.length) = some 0 := by decide +kernel
theorem gwN_span_192 : GoodIn lw_all (wsV RX0 192 RX10 yX10_span (ws_ yX10_span cX10_span 1 (some .int))) := lw_V q2012 q2013 q2014 q105 q2015
theorem hdN_span : yX10_span.cls = RX10 ∧ yX10_span.cls ≠ "java/lang/invoke/MethodHandle" ∧ yX10_span.cls ≠ "java/lang/invoke/VarHandle" ∧ (parseMethodDescriptor yX10_span.desc).map (fun d => d.parameters.length) = some 0 := by decide +kernel
theorem gwL_wet_193 : GoodIn lw_all (va_wsS RX0 193 yX0_wet (wsW_ yX0_wet cX0_wet 4 (some .int) [(0, 9, 12, 31)])) := lw_SW q1210 q1211 q95 q1212
theorem hdL_wet : yX0_wet.cls ≠ "java/lang/invoke/MethodHandle" ∧ yX0_wet.cls ≠ "java/lang/invoke/VarHandle" ∧ (parseMethodDescriptor yX0_wet.desc).map (fun d => d.parameters.length) = some 3 := by decide +kernel
theorem gwN_wet_195 : GoodIn lw_all (wsV RX0 195 RX10 yX10_wet (ws_ yX10_wet cX10_wet 2 (some .int))) := lw_V q2016 q2017 q2018 q105 q2019
theorem hdN_wet : yX10_wet.cls = RX10 ∧ yX10_wet.cls ≠ "java/lang/invoke/MethodHandle" ∧ yX10_wet.cls ≠ "java/lang/invoke/VarHandle" ∧ (parseMethodDescriptor yX10_wet.desc).map (fun d => d.parameters.length) = some 1 := by decide +kernel
theorem gwL_idle_196 : GoodIn lw_all (va_wsS RX0 196 yX0_idle (wsW_ yX0_idle cX0_idle 4 (some .int) [(0, 9, 12, 31)])) := lw_SW q1217 q1218 q95 q1219
theorem hdL_idle : yX0_idle.cls ≠ "java/lang/invoke/MethodHandle" ∧ yX0_idle.cls ≠ "java/lang/invoke/VarHandle" ∧ (parseMethodDescriptor yX0_idle.desc).map (fun d => d.parameters.length) = some 3 := by decide +kernel
theorem gwN_idle_198 : GoodIn lw_all (wsV RX0 198 RX10 yX10_idle (ws_ yX10_idle cX10_idle 2 (some .int))) := lw_V q2020 q2021 q2022 q105 q2023
theorem hdN_idle : yX10_idle.cls = RX10 ∧ yX10_idle.cls ≠ "java/lang/invoke/MethodHandle" ∧ yX10_idle.cls ≠ "java/lang/invoke/VarHandle" ∧ (parseMethodDescriptor yX10_idle.desc).map (fun d => d.parameters.length) = some 1 := by decide +kernel
theorem gwM_umbrella_199 : GoodIn lw_all (wsV RX0 199 RX1 yX1_umbrella (ws_ yX1_umbrella cX1_umbrella 3 (some .int))) := lw_V q642 q643 q644 q96 q645
theorem hdM_umbrella : yX1_umbrella.cls = RX1 ∧ yX1_umbrella.cls ≠ "java/lang/invoke/MethodHandle" ∧ yX1_umbrella.cls ≠ "java/lang/invoke/VarHandle" ∧ (parseMethodDescriptor yX1_umbrella.desc).map (fun d => d.parameters.length) = some 0 := by decide +kernel
theorem gwN_umbrella_202 : GoodIn lw_all (wsV RX0 202 RX10 yX10_umbrella (ws_ yX10_umbrella cX10_umbrella 4 (some .int))) := lw_V q2024 q2025 q2026 q105 q2027
theorem hdN_umbrella : yX10_umbrella.cls = RX10 ∧ yX10_umbrella.cls ≠ "java/lang/invoke/MethodHandle" ∧ yX10_umbrella.cls ≠ "java/lang/invoke/VarHandle" ∧ (parseMethodDescriptor yX10_umbrella.desc).map (fun d => d.parameters.length) = some 0 := by decide +kernel
theorem gwL_slack_203 : GoodIn lw_all (va_wsS RX0 203 yX0_slack (wsW_ yX0_slack cX0_slack 4 (some .int) [(0, 9, 12, 31)])) := lw_SW q1224 q1225 q95 q1226
theorem hdL_slack : yX0_slack.cls ≠ "java/lang/invoke/MethodHandle" ∧ yX0_slack.cls ≠ "java/lang/invoke/VarHandle" ∧ (parseMethodDescriptor yX0_slack.desc).map (fun d => d.parameters.length) = some 3 := by decide +kernel
theorem gwN_slack_205 : GoodIn lw_all (wsV RX0 205 RX10 yX10_slack (ws_ yX10_slack cX10_slack 2 (some .int))) := lw_V q2028 q2029 q2030 q105 q2031
theorem hdN_slack : yX10_slack.cls = RX10 ∧ yX10_slack.cls ≠ "java/lang/invoke/MethodHandle" ∧ yX10_slack.cls ≠ "java/lang/invoke/VarHandle" ∧ (parseMethodDescriptor yX10_slack.desc).map (fun d => d.parameters.length) = some 1 := by decide +kernel
theorem gwM_urgent_206 : GoodIn lw_all (wsV RX0 206 RX1 yX1_urgent (ws_ yX1_urgent cX1_urgent 3 (some .int))) := lw_V q646 q647 q648 q96 q649
theorem hdM_urgent : yX1_urgent.cls = RX1 ∧ yX1_urgent.cls ≠ "java/lang/invoke/MethodHandle" ∧ yX1_urgent.cls ≠ "java/lang/invoke/VarHandle" ∧ (parseMethodDescriptor yX1_urgent.desc).map (fun d => d.parameters.length) = some 0 := by decide +kernel
theorem gwN_urgent_209 : GoodIn lw_all (wsV RX0 209 RX10 yX10_urgent (ws_ yX10_urgent cX10_urgent 3 (some .int))) := lw_V q2036 q2037 q2038 q105 q2039
theorem hdN_urgent : yX10_urgent.cls = RX10 ∧ yX10_urgent.cls ≠ "java/lang/invoke/MethodHandle" ∧ yX10_urgent.cls ≠ "java/lang/invoke/VarHandle" ∧ (parseMethodDescriptor yX10_urgent.desc).map (fun d => d.parameters.length) = some 0 := by decide +kernel
theorem gwL_ahead_210 : GoodIn lw_all (va_wsS RX0 210 yX0_ahead (wsW_ yX0_ahead cX0_ahead 4 (some .int) [(0, 9, 12, 31)])) := lw_SW q1231 q1232 q95 q1233
theorem hdL_ahead : yX0_ahead.cls ≠ "java/lang/invoke/MethodHandle" ∧ yX0_ahead.cls ≠ "java/lang/invoke/VarHandle" ∧ (parseMethodDescriptor yX0_ahead.desc).map (fun d => d.parameters.length) = some 3 := by decide +kernel
theorem gwN_ahead_212 : GoodIn lw_all (wsV RX0 212 RX10 yX10_ahead (ws_ yX10_ahead cX10_ahead 4 (some .int))) := lw_V q2040 q2041 q2042 q105 q2043
theorem hdN_ahead : yX10_ahead.cls = RX10 ∧ yX10_ahead.cls ≠ "java/lang/invoke/MethodHandle" ∧ yX10_ahead.cls ≠ "java/lang/invoke/VarHandle" ∧ (parseMethodDescriptor yX10_ahead.desc).map (fun d => d.parameters.length) = some 1 := by decide +kernel
theorem gwL_chain_213 : GoodIn lw_all (va_wsS RX0 213 yX0_chain (wsW_ yX0_chain cX0_chain 4 (some .int) [(0, 9, 12, 31)])) := lw_SW q1242 q1243 q95 q1244
theorem hdL_chain : yX0_chain.cls ≠ "java/lang/invoke/MethodHandle" ∧ yX0_chain.cls ≠ "java/lang/invoke/VarHandle" ∧ (parseMethodDescriptor yX0_chain.desc).map (fun d => d.parameters.length) = some 3 := by decide +kernel
theorem gwN_chain_215 : GoodIn lw_all (wsV RX0 215 RX10 yX10_chain (ws_ yX10_chain cX10_chain 5 (some .int))) := lw_V q2044 q2045 q2046 q105 q2047
theorem hdN_chain : yX10_chain.cls = RX10 ∧ yX10_chain.cls ≠ "java/lang/invoke/MethodHandle" ∧ yX10_chain.cls ≠ "java/lang/invoke/VarHandle" ∧ (parseMethodDescriptor yX10_chain.desc).map (fun d => d.parameters.length) = some 1 := by decide +kernel
theorem gwL_soonest_216 : GoodIn lw_all (va_wsS RX0 216 yX0_soonest (wsW_ yX0_soonest cX0_soonest 4 (some .int) [(0, 9, 12, 13), (0, 9, 15, 68)])) := lw_SW q1255 q1256 q95 q1257
theorem hdL_soonest : yX0_soonest.cls ≠ "java/lang/invoke/MethodHandle" ∧ yX0_soonest.cls ≠ "java/lang/invoke/VarHandle" ∧ (parseMethodDescriptor yX0_soonest.desc).map (fun d => d.parameters.length) = some 3 := by decide +kernel
theorem gwN_soonest_218 : GoodIn lw_all (wsV RX0 218 RX10 yX10_soonest (ws_ yX10_soonest cX10_soonest 2 (some .int))) := lw_V q2048 q2049 q2050 q105 q2051
theorem hdN_soonest : yX10_soonest.cls = RX10 ∧ yX10_soonest.cls ≠ "java/lang/invoke/MethodHandle" ∧ yX10_soonest.cls ≠ "java/lang/invoke/VarHandle" ∧ (parseMethodDescriptor yX10_soonest.desc).map (fun d => d.parameters.length) = some 1 := by decide +kernel
theorem gwL_first_219 : GoodIn lw_all (va_wsS RX0 219 yX0_first (wsW_ yX0_first cX0_first 4 (some .int) [(0, 9, 12, 13), (0, 9, 15, 68)])) := lw_SW q1302 q1303 q95 q1304
theorem hdL_first : yX0_first.cls ≠ "java/lang/invoke/MethodHandle" ∧ yX0_first.cls ≠ "java/lang/invoke/VarHandle" ∧ (parseMethodDescriptor yX0_first.desc).map (fun d => d.parameters.length) = some 3 := by decide +kernel
theorem gwN_first_221 : GoodIn lw_all (wsV RX0 221 RX10 yX10_first (ws_ yX10_first cX10_first 2 (some .int))) := lw_V q2061 q2062 q2063 q105 q2064
theorem hdN_first : yX10_first.cls = RX10 ∧ yX10_first.cls ≠ "java/lang/invoke/MethodHandle" ∧ yX10_first.cls ≠ "java/lang/invoke/VarHandle" ∧ (parseMethodDescriptor yX10_first.desc).map (fun d => d.parameters.length) = some 1 := by decide +kernel
theorem gwL_sinks_222 : GoodIn lw_all (va_wsS RX0 222 yX0_sinks (wsW_ yX0_sinks cX0_sinks 6 (some .int) [(0, 12, 15, 13)])) := lw_SW q1309 q1310 q95 q1311
theorem hdL_sinks : yX0_sinks.cls ≠ "java/lang/invoke/MethodHandle" ∧ yX0_sinks.cls ≠ "java/lang/invoke/VarHandle" ∧ (parseMethodDescriptor yX0_sinks.desc).map (fun d => d.parameters.length) = some 5 := by decide +kernel
theorem gwN_sinks_225 : GoodIn lw_all (wsV RX0 225 RX10 yX10_sinks (ws_ yX10_sinks cX10_sinks 4 (some .int))) := lw_V q2065 q2066 q2067 q105 q2068
theorem hdN_sinks : yX10_sinks.cls = RX10 ∧ yX10_sinks.cls ≠ "java/lang/invoke/MethodHandle" ∧ yX10_sinks.cls ≠ "java/lang/invoke/VarHandle" ∧ (parseMethodDescriptor yX10_sinks.desc).map (fun d => d.parameters.length) = some 3 := by decide +kernel
theorem gwL_under_226 : GoodIn lw_all (va_wsS RX0 226 yX0_under (wsW_ yX0_under cX0_under 6 (some .int) [(0, 12, 15, 13)])) := lw_SW q1324 q1325 q95 q1326
theorem hdL_under : yX0_under.cls ≠ "java/lang/invoke/MethodHandle" ∧ yX0_under.cls ≠ "java/lang/invoke/VarHandle" ∧ (parseMethodDescriptor yX0_under.desc).map (fun d => d.parameters.length) = some 5 := by decide +kernel
theorem gwN_under_228 : GoodIn lw_all (wsV RX0 228 RX10 yX10_under (ws_ yX10_under cX10_under 6 (some .int))) := lw_V q2083 q2084 q2085 q105 q2086
theorem hdN_under : yX10_under.cls = RX10 ∧ yX10_under.cls ≠ "java/lang/invoke/MethodHandle" ∧ yX10_under.cls ≠ "java/lang/invoke/VarHandle" ∧ (parseMethodDescriptor yX10_under.desc).map (fun d => d.parameters.length) = some 3 := by decide +kernel
theorem gwL_push_229 : GoodIn lw_all (va_wsS RX0 229 yX0_push (wsW_ yX0_push cX0_push 7 (some .int) [(0, 14, 17, 13)])) := lw_SW q1332 q1333 q95 q1334
theorem hdL_push : yX0_push.cls ≠ "java/lang/invoke/MethodHandle" ∧ yX0_push.cls ≠ "java/lang/invoke/VarHandle" ∧ (parseMethodDescriptor yX0_push.desc).map (fun d => d.parameters.length) = some 6 := by decide +kernel
theorem gwN_push_232 : GoodIn lw_all (wsV RX0 232 RX10 yX10_push (ws_ yX10_push cX10_push 9 (some .int))) := lw_V q2087 q2088 q2089 q105 q2090
theorem hdN_push : yX10_push.cls = RX10 ∧ yX10_push.cls ≠ "java/lang/invoke/MethodHandle" ∧ yX10_push.cls ≠ "java/lang/invoke/VarHandle" ∧ (parseMethodDescriptor yX10_push.desc).map (fun d => d.parameters.length) = some 4 := by decide +kernel
theorem gwL_tries_233 : GoodIn lw_all (va_wsS RX0 233 yX0_tries (wsW_ yX0_tries cX0_tries 7 (some .int) [(0, 13, 16, 31), (0, 13, 20, 13)])) := lw_SW q1342 q1343 q95 q1344
theorem hdL_tries : yX0_tries.cls ≠ "java/lang/invoke/MethodHandle" ∧ yX0_tries.cls ≠ "java/lang/invoke/VarHandle" ∧ (parseMethodDescriptor yX0_tries.desc).map (fun d => d.parameters.length) = some 6 := by decide +kernel
theorem gwN_tries_235 : GoodIn lw_all (wsV RX0 235 RX10 yX10_tries (ws_ yX10_tries cX10_tries 5 (some .long))) := lw_V q2091 q2092 q2093 q105 q2094
theorem hdN_tries : yX10_tries.cls = RX10 ∧ yX10_tries.cls ≠ "java/lang/invoke/MethodHandle" ∧ yX10_tries.cls ≠ "java/lang/invoke/VarHandle" ∧ (parseMethodDescriptor yX10_tries.desc).map (fun d => d.parameters.length) = some 4 := by decide +kernel
theorem gwL_half_236 : GoodIn lw_all (va_wsS RX0 236 yX0_half (wsW_ yX0_half cX0_half 5 (some .int) [(0, 10, 13, 31), (0, 10, 17, 13)])) := lw_SW q1363 q1364 q95 q1365
theorem hdL_half : yX0_half.cls ≠ "java/lang/invoke/MethodHandle" ∧ yX0_half.cls ≠ "java/lang/invoke/VarHandle" ∧ (parseMethodDescriptor yX0_half.desc).map (fun d => d.parameters.length) = some 4 := by decide +kernel
theorem gwN_half_238 : GoodIn lw_all (wsV RX0 238 RX10 yX10_half (ws_ yX10_half cX10_half 4 (some .int))) := lw_V q2114 q2115 q2116 q105 q2117
theorem hdN_half : yX10_half.cls = RX10 ∧ yX10_half.cls ≠ "java/lang/invoke/MethodHandle" ∧ yX10_half.cls ≠ "java/lang/invoke/VarHandle" ∧ (parseMethodDescriptor yX10_half.desc).map (fun d => d.parameters.length) = some 2 := by decide +kernel
theorem gwL_easiest_239 : GoodIn lw_all (va_wsS RX0 239 yX0_easiest (wsW_ yX0_easiest cX0_easiest 4 (some .int) [(0, 9, 12, 13)])) := lw_SW q1371 q1372 q95 q1373
theorem hdL_easiest : yX0_easiest.cls ≠ "java/lang/invoke/MethodHandle" ∧ yX0_easiest.cls ≠ "java/lang/invoke/VarHandle" ∧ (parseMethodDescriptor yX0_easiest.desc).map (fun d => d.parameters.length) = some 3 := by decide +kernel
theorem gwN_easiest_241 : GoodIn lw_all (wsV RX0 241 RX10 yX10_easiest (ws_ yX10_easiest cX10_easiest 4 (some .int))) := lw_V q2119 q2120 q2121 q105 q2122
theorem hdN_easiest : yX10_easiest.cls = RX10 ∧ yX10_easiest.cls ≠ "java/lang/invoke/MethodHandle" ∧ yX10_easiest.cls ≠ "java/lang/invoke/VarHandle" ∧ (parseMethodDescriptor yX10_easiest.desc).map (fun d => d.parameters.length) = some 1 := by decide +kernel
theorem gwL_waits_242 : GoodIn lw_all (va_wsS RX0 242 yX0_waits (wsW_ yX0_waits cX0_waits 7 (some .int) [(0, 13, 16, 13)])) := lw_SW q1378 q1379 q95 q1380
theorem hdL_waits : yX0_waits.cls ≠ "java/lang/invoke/MethodHandle" ∧ yX0_waits.cls ≠ "java/lang/invoke/VarHandle" ∧ (parseMethodDescriptor yX0_waits.desc).map (fun d => d.parameters.length) = some 6 := by decide +kernel
theorem gwN_waits_244 : GoodIn lw_all (wsV RX0 244 RX10 yX10_waits (ws_ yX10_waits cX10_waits 5 (some .long))) := lw_V q2123 q2124 q2125 q105 q2126
theorem hdN_waits : yX10_waits.cls = RX10 ∧ yX10_waits.cls ≠ "java/lang/invoke/MethodHandle" ∧ yX10_waits.cls ≠ "java/lang/invoke/VarHandle" ∧ (parseMethodDescriptor yX10_waits.desc).map (fun d => d.parameters.length) = some 4 := by decide +kernel
theorem gwL_await_245 : GoodIn lw_all (va_wsS RX0 245 yX0_await (wsW_ yX0_await cX0_await 5 (some .int) [(0, 10, 13, 13)])) := lw_SW q1393 q1394 q95 q1395
theorem hdL_await : yX0_await.cls ≠ "java/lang/invoke/MethodHandle" ∧ yX0_await.cls ≠ "java/lang/invoke/VarHandle" ∧ (parseMethodDescriptor yX0_await.desc).map (fun d => d.parameters.length) = some 4 := by decide +kernel
theorem gwN_await_247 : GoodIn lw_all (wsV RX0 247 RX10 yX10_await (ws_ yX10_await cX10_await 5 (some .int))) := lw_V q2131 q2132 q2133 q105 q2134
theorem hdN_await : yX10_await.cls = RX10 ∧ yX10_await.cls ≠ "java/lang/invoke/MethodHandle" ∧ yX10_await.cls ≠ "java/lang/invoke/VarHandle" ∧ (parseMethodDescriptor yX10_await.desc).map (fun d => d.parameters.length) = some 2 := by decide +kernel
theorem gwL_cross_248 : GoodIn lw_all (va_wsS RX0 248 yX0_cross (wsW_ yX0_cross cX0_cross 5 (some .int) [(0, 10, 13, 13)])) := lw_SW q1400 q1401 q95 q1402
theorem hdL_cross : yX0_cross.cls ≠ "java/lang/invoke/MethodHandle" ∧ yX0_cross.cls ≠ "java/lang/invoke/VarHandle" ∧ (parseMethodDescriptor yX0_cross.desc).map (fun d => d.parameters.length) = some 4 := by decide +kernel
theorem gwN_cross_250 : GoodIn lw_all (wsV RX0 250 RX10 yX10_cross (ws_ yX10_cross cX10_cross 3 (some .int))) := lw_V q2135 q2136 q2137 q105 q2138
theorem hdN_cross : yX10_cross.cls = RX10 ∧ yX10_cross.cls ≠ "java/lang/invoke/MethodHandle" ∧ yX10_cross.cls ≠ "java/lang/invoke/VarHandle" ∧ (parseMethodDescriptor yX10_cross.desc).map (fun d => d.parameters.length) = some 2 := by decide +kernel
theorem gwL_crooked_251 : GoodIn lw_all (va_wsS RX0 251 yX0_crooked (wsW_ yX0_crooked cX0_crooked 4 (some .int) [(0, 9, 12, 13)])) := lw_SW q1420 q1421 q95 q1422
theorem hdL_crooked : yX0_crooked.cls ≠ "java/lang/invoke/MethodHandle" ∧ yX0_crooked.cls ≠ "java/lang/invoke/VarHandle" ∧ (parseMethodDescriptor yX0_crooked.desc).map (fun d => d.parameters.length) = some 3 := by decide +kernel
theorem gwN_crooked_253 : GoodIn lw_all (wsV RX0 253 RX10 yX10_crooked (ws_ yX10_crooked cX10_crooked 7 (some .int))) := lw_V q2147 q2148 q2149 q105 q2150
theorem hdN_crooked : yX10_crooked.cls = RX10 ∧ yX10_crooked.cls ≠ "java/lang/invoke/MethodHandle" ∧ yX10_crooked.cls ≠ "java/lang/invoke/VarHandle" ∧ (parseMethodDescriptor yX10_crooked.desc).map (fun d => d.parameters.length) = some 1 := by decide +kernel
theorem gwL_share_254 : GoodIn lw_all (va_wsS RX0 254 yX0_share (wsW_ yX0_share cX0_share 4 (some .int) [(0, 9, 12, 13)])) := lw_SW q1428 q1429 q95 q1430
theorem hdL_share : yX0_share.cls ≠ "java/lang/invoke/MethodHandle" ∧ yX0_share.cls ≠ "java/lang/invoke/VarHandle" ∧ (parseMethodDescriptor yX0_share.desc).map (fun d => d.parameters.length) = some 3 := by decide +kernel
theorem gwN_share_256 : GoodIn lw_all (wsV RX0 256 RX10 yX10_share (ws_ yX10_share cX10_share 2 (some .int))) := lw_V q2152 q2153 q2154 q105 q2155
theorem hdN_share : yX10_share.cls = RX10 ∧ yX10_share.cls ≠ "java/lang/invoke/MethodHandle" ∧ yX10_share.cls ≠ "java/lang/invoke/VarHandle" ∧ (parseMethodDescriptor yX10_share.desc).map (fun d => d.parameters.length) = some 1 := by decide +kernel
theorem gwL_drive_257 : GoodIn lw_all (va_wsS RX0 257 yX0_drive (wsW_ yX0_drive cX0_drive 4 (some .int) [(0, 9, 12, 13)])) := lw_SW q1435 q1436 q95 q1437
theorem hdL_drive : yX0_drive.cls ≠ "java/lang/invoke/MethodHandle" ∧ yX0_drive.cls ≠ "java/lang/invoke/VarHandle" ∧ (parseMethodDescriptor yX0_drive.desc).map (fun d => d.parameters.length) = some 3 := by decide +kernel
theorem gwN_drive_259 : GoodIn lw_all (wsV RX0 259 RX10 yX10_drive (ws_ yX10_drive cX10_drive 2 (some .int))) := lw_V q2156 q2157 q2158 q105 q2159
theorem hdN_drive : yX10_drive.cls = RX10 ∧ yX10_drive.cls ≠ "java/lang/invoke/MethodHandle" ∧ yX10_drive.cls ≠ "java/lang/invoke/VarHandle" ∧ (parseMethodDescriptor yX10_drive.desc).map (fun d => d.parameters.length) = some 1 := by decide +kernel
theorem gwL_pumps_260 : GoodIn lw_all (va_wsS RX0 260 yX0_pumps (wsW_ yX0_pumps cX0_pumps 4 (some .int) [(0, 9, 12, 13)])) := lw_SW q1453 q1454 q95 q1455
theorem hdL_pumps : yX0_pumps.cls ≠ "java/lang/invoke/MethodHandle" ∧ yX0_pumps.cls ≠ "java/lang/invoke/VarHandle" ∧ (parseMethodDescriptor yX0_pumps.desc).map (fun d => d.parameters.length) = some 3 := by decide +kernel
theorem gwN_pumps_262 : GoodIn lw_all (wsV RX0 262 RX10 yX10_pumps (ws_ yX10_pumps cX10_pumps 2 (some .int))) := lw_V q2169 q2170 q2171 q105 q2172
theorem hdN_pumps : yX10_pumps.cls = RX10 ∧ yX10_pumps.cls ≠ "java/lang/invoke/MethodHandle" ∧ yX10_pumps.cls ≠ "java/lang/invoke/VarHandle" ∧ (parseMethodDescriptor yX10_pumps.desc).map (fun d => d.parameters.length) = some 1 := by decide +kernel
theorem gwL_odds_263 : GoodIn lw_all (va_wsS RX0 263 yX0_odds (wsW_ yX0_odds cX0_odds 5 (some .int) [(0, 9, 12, 31), (0, 9, 16, 13)])) := lw_SW q1460 q1461 q95 q1462
theorem hdL_odds : yX0_odds.cls ≠ "java/lang/invoke/MethodHandle" ∧ yX0_odds.cls ≠ "java/lang/invoke/VarHandle" ∧ (parseMethodDescriptor yX0_odds.desc).map (fun d => d.parameters.length) = some 4 := by decide +kernel
theorem gwN_odds_265 : GoodIn lw_all (wsV RX0 265 RX10 yX10_odds (ws_ yX10_odds cX10_odds 6 (some .long))) := lw_V q2173 q2174 q2175 q105 q2176
theorem hdN_odds : yX10_odds.cls = RX10 ∧ yX10_odds.cls ≠ "java/lang/invoke/MethodHandle" ∧ yX10_odds.cls ≠ "java/lang/invoke/VarHandle" ∧ (parseMethodDescriptor yX10_odds.desc).map (fun d => d.parameters.length) = some 2 := by decide +kernel
theorem gwM_likeliest_266 : GoodIn lw_all (wsV RX0 266 RX1 yX1_likeliest (ws_ yX1_likeliest cX1_likeliest 3 (some .int))) := lw_V q662 q663 q664 q96 q665
theorem hdM_likeliest : yX1_likeliest.cls = RX1 ∧ yX1_likeliest.cls ≠ "java/lang/invoke/MethodHandle" ∧ yX1_likeliest.cls ≠ "java/lang/invoke/VarHandle" ∧ (parseMethodDescriptor yX1_likeliest.desc).map (fun d => d.parameters.length) = some 0 := by decide +kernel
theorem gwN_likeliest_269 : GoodIn lw_all (wsV RX0 269 RX10 yX10_likeliest (ws_ yX10_likeliest cX10_likeliest 4 (some .int))) := lw_V q2181 q2182 q2183 q105 q2184
theorem hdN_likeliest : yX10_likeliest.cls = RX10 ∧ yX10_likeliest.cls ≠ "java/lang/invoke/MethodHandle" ∧ yX10_likeliest.cls ≠ "java/lang/invoke/VarHandle" ∧ (parseMethodDescriptor yX10_likeliest.desc).map (fun d => d.parameters.length) = some 0 := by decide +kernel
theorem gwM_ask_270 : GoodIn lw_all (wsV RX0 270 RX1 yX1_ask (ws_ yX1_ask cX1_ask 5 (some .int))) := lw_V q670 q671 q672 q96 q673
theorem hdM_ask : yX1_ask.cls = RX1 ∧ yX1_ask.cls ≠ "java/lang/invoke/MethodHandle" ∧ yX1_ask.cls ≠ "java/lang/invoke/VarHandle" ∧ (parseMethodDescriptor yX1_ask.desc).map (fun d => d.parameters.length) = some 0 := by decide +kernel
theorem gwN_ask_273 : GoodIn lw_all (wsV RX0 273 RX10 yX10_ask (ws_ yX10_ask cX10_ask 7 (some .int))) := lw_V q2189 q2190 q2191 q105 q2192
theorem hdN_ask : yX10_ask.cls = RX10 ∧ yX10_ask.cls ≠ "java/lang/invoke/MethodHandle" ∧ yX10_ask.cls ≠ "java/lang/invoke/VarHandle" ∧ (parseMethodDescriptor yX10_ask.desc).map (fun d => d.parameters.length) = some 0 := by decide +kernel
theorem gwL_evening_274 : GoodIn lw_all (va_wsS RX0 274 yX0_evening (wsW_ yX0_evening cX0_evening 5 (some .int) [(0, 10, 13, 13)])) := lw_SW q1467 q1468 q95 q1469
theorem hdL_evening : yX0_evening.cls ≠ "java/lang/invoke/MethodHandle" ∧ yX0_evening.cls ≠ "java/lang/invoke/VarHandle" ∧ (parseMethodDescriptor yX0_evening.desc).map (fun d => d.parameters.length) = some 4 := by decide +kernel
theorem gwN_evening_276 : GoodIn lw_all (wsV RX0 276 RX10 yX10_evening (ws_ yX10_evening cX10_evening 4 (some .int))) := lw_V q2193 q2194 q2195 q105 q2196
theorem hdN_evening : yX10_evening.cls = RX10 ∧ yX10_evening.cls ≠ "java/lang/invoke/MethodHandle" ∧ yX10_evening.cls ≠ "java/lang/invoke/VarHandle" ∧ (parseMethodDescriptor yX10_evening.desc).map (fun d => d.parameters.length) = some 2 := by decide +kernel
theorem gwL_evenings_277 : GoodIn lw_all (va_wsS RX0 277 yX0_evenings (wsW_ yX0_evenings cX0_evenings 6 (some .int) [(0, 12, 15, 13)])) := lw_SW q1483 q1484 q95 q1485
theorem hdL_evenings : yX0_evenings.cls ≠ "java/lang/invoke/MethodHandle" ∧ yX0_evenings.cls ≠ "java/lang/invoke/VarHandle" ∧ (parseMethodDescriptor yX0_evenings.desc).map (fun d => d.parameters.length) = some 5 := by decide +kernel
theorem gwN_evenings_279 : GoodIn lw_all (wsV RX0 279 RX10 yX10_evenings (ws_ yX10_evenings cX10_evenings 10 (some .int))) := lw_V q2201 q2202 q2203 q105 q2204
theorem hdN_evenings : yX10_evenings.cls = RX10 ∧ yX10_evenings.cls ≠ "java/lang/invoke/MethodHandle" ∧ yX10_evenings.cls ≠ "java/lang/invoke/VarHandle" ∧ (parseMethodDescriptor yX10_evenings.desc).map (fun d => d.parameters.length) = some 3 := by decide +kernel
theorem gwL_swap_280 : GoodIn lw_all (va_wsS RX0 280 yX0_swap (wsW_ yX0_swap cX0_swap 5 (some .int) [(0, 10, 13, 31)])) := lw_SW q1490 q1491 q95 q1492
theorem hdL_swap : yX0_swap.cls ≠ "java/lang/invoke/MethodHandle" ∧ yX0_swap.cls ≠ "java/lang/invoke/VarHandle" ∧ (parseMethodDescriptor yX0_swap.desc).map (fun d => d.parameters.length) = some 4 := by decide +kernel
theorem gwN_swap_282 : GoodIn lw_all (wsV RX0 282 RX10 yX10_swap (ws_ yX10_swap cX10_swap 5 (some .int))) := lw_V q2205 q2206 q2207 q105 q2208
theorem hdN_swap : yX10_swap.cls = RX10 ∧ yX10_swap.cls ≠ "java/lang/invoke/MethodHandle" ∧ yX10_swap.cls ≠ "java/lang/invoke/VarHandle" ∧ (parseMethodDescriptor yX10_swap.desc).map (fun d => d.parameters.length) = some 2 := by decide +kernel
theorem gwL_hand_283 : GoodIn lw_all (va_wsS RX0 283 yX0_hand (wsW_ yX0_hand cX0_hand 5 (some .int) [(0, 10, 13, 31), (0, 10, 17, 13)])) := lw_SW q1508 q1509 q95 q1510
theorem hdL_hand : yX0_hand.cls ≠ "java/lang/invoke/MethodHandle" ∧ yX0_hand.cls ≠ "java/lang/invoke/VarHandle" ∧ (parseMethodDescriptor yX0_hand.desc).map (fun d => d.parameters.length) = some 4 := by decide +kernel
theorem gwN_hand_285 : GoodIn lw_all (wsV RX0 285 RX10 yX10_hand (ws_ yX10_hand cX10_hand 3 (some .int))) := lw_V q2217 q2218 q2219 q105 q2220
theorem hdN_hand : yX10_hand.cls = RX10 ∧ yX10_hand.cls ≠ "java/lang/invoke/MethodHandle" ∧ yX10_hand.cls ≠ "java/lang/invoke/VarHandle" ∧ (parseMethodDescriptor yX10_hand.desc).map (fun d => d.parameters.length) = some 2 := by decide +kernel
theorem gwL_drop_286 : GoodIn lw_all (va_wsS RX0 286 yX0_drop (wsW_ yX0_drop cX0_drop 4 (some .int) [(0, 9, 12, 31)])) := lw_SW q1515 q1516 q95 q1517
theorem hdL_drop : yX0_drop.cls ≠ "java/lang/invoke/MethodHandle" ∧ yX0_drop.cls ≠ "java/lang/invoke/VarHandle" ∧ (parseMethodDescriptor yX0_drop.desc).map (fun d => d.parameters.length) = some 3 := by decide +kernel
theorem gwN_drop_288 : GoodIn lw_all (wsV RX0 288 RX10 yX10_drop (ws_ yX10_drop cX10_drop 3 (some .int))) := lw_V q2221 q2222 q2223 q105 q2224
theorem hdN_drop : yX10_drop.cls = RX10 ∧ yX10_drop.cls ≠ "java/lang/invoke/MethodHandle" ∧ yX10_drop.cls ≠ "java/lang/invoke/VarHandle" ∧ (parseMethodDescriptor yX10_drop.desc).map (fun d => d.parameters.length) = some 1 := by decide +kernel
theorem gwM_undo_289 : GoodIn lw_all (wsV RX0 289 RX1 yX1_undo (ws_ yX1_undo cX1_undo 1 (some .int))) := lw_V q679 q680 q681 q96 q682
theorem hdM_undo : yX1_undo.cls = RX1 ∧ yX1_undo.cls ≠ "java/lang/invoke/MethodHandle" ∧ yX1_undo.cls ≠ "java/lang/invoke/VarHandle" ∧ (parseMethodDescriptor yX1_undo.desc).map (fun d => d.parameters.length) = some 0 := by decide +kernel
theorem gwN_undo_292 : GoodIn lw_all (wsV RX0 292 RX10 yX10_undo (ws_ yX10_undo cX10_undo 1 (some .int))) := lw_V q2225 q2226 q2227 q105 q2228
theorem hdN_undo : yX10_undo.cls = RX10 ∧ yX10_undo.cls ≠ "java/lang/invoke/MethodHandle" ∧ yX10_undo.cls ≠ "java/lang/invoke/VarHandle" ∧ (parseMethodDescriptor yX10_undo.desc).map (fun d => d.parameters.length) = some 0 := by decide +kernel
theorem gwM_image_293 : GoodIn lw_all (wsV RX0 293 RX1 yX1_image (ws_ yX1_image cX1_image 2 (some .int))) := lw_V q690 q691 q692 q96 q693
theorem hdM_image : yX1_image.cls = RX1 ∧ yX1_image.cls ≠ "java/lang/invoke/MethodHandle" ∧ yX1_image.cls ≠ "java/lang/invoke/VarHandle" ∧ (parseMethodDescriptor yX1_image.desc).map (fun d => d.parameters.length) = some 0 := by decide +kernel
theorem gwN_image_296 : GoodIn lw_all (wsV RX0 296 RX10 yX10_image (ws_ yX10_image cX10_image 3 (some .int))) := lw_V q2233 q2234 q2235 q105 q2236
theorem hdN_image : yX10_image.cls = RX10 ∧ yX10_image.cls ≠ "java/lang/invoke/MethodHandle" ∧ yX10_image.cls ≠ "java/lang/invoke/VarHandle" ∧ (parseMethodDescriptor yX10_image.desc).map (fun d => d.parameters.length) = some 0 := by decide +kernel
theorem gwM_restore_297 : GoodIn lw_all (wsV RX0 297 RX1 yX1_restore (ws_ yX1_restore cX1_restore 2 (some .int))) := lw_V q694 q695 q696 q96 q697
theorem hdM_restore : yX1_restore.cls = RX1 ∧ yX1_restore.cls ≠ "java/lang/invoke/MethodHandle" ∧ yX1_restore.cls ≠ "java/lang/invoke/VarHandle" ∧ (parseMethodDescriptor yX1_restore.desc).map (fun d => d.parameters.length) = some 0 := by decide +kernel
theorem gwN_restore_300 : GoodIn lw_all (wsV RX0 300 RX10 yX10_restore (ws_ yX10_restore cX10_restore 3 (some .int))) := lw_V q2237 q2238 q2239 q105 q2240
theorem hdN_restore : yX10_restore.cls = RX10 ∧ yX10_restore.cls ≠ "java/lang/invoke/MethodHandle" ∧ yX10_restore.cls ≠ "java/lang/invoke/VarHandle" ∧ (parseMethodDescriptor yX10_restore.desc).map (fun d => d.parameters.length) = some 0 := by decide +kernel
theorem gwM_status_301 : GoodIn lw_all (wsV RX0 301 RX1 yX1_status (ws_ yX1_status cX1_status 2 (some .int))) := lw_V q698 q699 q700 q96 q701
theorem hdM_status : yX1_status.cls = RX1 ∧ yX1_status.cls ≠ "java/lang/invoke/MethodHandle" ∧ yX1_status.cls ≠ "java/lang/invoke/VarHandle" ∧ (parseMethodDescriptor yX1_status.desc).map (fun d => d.parameters.length) = some 1 := by decide +kernel
theorem gwN_status_304 : GoodIn lw_all (wsV RX0 304 RX10 yX10_status (ws_ yX10_status cX10_status 2 (some .int))) := lw_V q2241 q2242 q2243 q105 q2244
theorem hdN_status : yX10_status.cls = RX10 ∧ yX10_status.cls ≠ "java/lang/invoke/MethodHandle" ∧ yX10_status.cls ≠ "java/lang/invoke/VarHandle" ∧ (parseMethodDescriptor yX10_status.desc).map (fun d => d.parameters.length) = some 1 := by decide +kernel
theorem gwM_count_305 : GoodIn lw_all (wsV RX0 305 RX1 yX1_count (ws_ yX1_count cX1_count 2 (some .int))) := lw_V q702 q703 q704 q96 q705
theorem hdM_count : yX1_count.cls = RX1 ∧ yX1_count.cls ≠ "java/lang/invoke/MethodHandle" ∧ yX1_count.cls ≠ "java/lang/invoke/VarHandle" ∧ (parseMethodDescriptor yX1_count.desc).map (fun d => d.parameters.length) = some 1 := by decide +kernel
theorem gwN_count_308 : GoodIn lw_all (wsV RX0 308 RX10 yX10_count (ws_ yX10_count cX10_count 2 (some .int))) := lw_V q2245 q2246 q2247 q105 q2248
theorem hdN_count : yX10_count.cls = RX10 ∧ yX10_count.cls ≠ "java/lang/invoke/MethodHandle" ∧ yX10_count.cls ≠ "java/lang/invoke/VarHandle" ∧ (parseMethodDescriptor yX10_count.desc).map (fun d => d.parameters.length) = some 1 := by decide +kernel
set_option maxHeartbeats 4000000 in
theorem case_0 {x : CT} {b0 Ls : Nat} {xs : Nat → Int32} (hX : XM_ x code 8 RX0 (some .boolean) b0 Ls xs) (N : Nat) (K : Nat → Nat) (z : Nat) (g gm : GS) (hKI : KI K z) (i : Nat) (hi : i + 7 ≤ Ls) (r : S3 × GS) (h : lc_0 N K z g gm (xs (i + 1)).toInt (xs (i + 2)).toInt (xs (i + 3)).toInt (xs (i + 4)).toInt (xs (i + 5)).toInt (xs (i + 6)).toInt = some r) (k : KI r.1.1 r.1.2.1 → VM x 8 r.1.1 r.1.2.1 r.1.2.2 r.2 2918 [(4, vI (i : Int)), (0, .ref b0), (1, .ref (xb x + 0)), (2, .ref (xb x + 350)), (3, .ref (xb x + 393))] []) : VM x 8 K z g gm 252 [(4, vI (i : Int)), (0, .ref b0), (1, .ref (xb x + 0)), (2, .ref (xb x + 350)), (3, .ref (xb x + 393))] [] := by
  have X := hX.1
  have hA := hX.2.1
  have hLs := hX.2.2.2.2.2
  unfold lc_0 at h
  refine VM_aload_n X dL_law_252 2 rfl ?_
  refine VM_aload_n X dL_law_253 1 rfl ?_
  refine VM_iload X dL_law_254 0 rfl ?_
  refine VM_iconst X dL_law_256 ?_
  refine VM_iadd X dL_law_257 ?_
  refine VM_sld (i + 1) hX (by omega) ((w32_of (by omega) (by omega)).trans (by omega)) dL_law_258 ?_
  refine VM_aload_n X dL_law_259 1 rfl ?_
  refine VM_iload X dL_law_260 0 rfl ?_
  refine VM_iconst X dL_law_262 ?_
  refine VM_iadd X dL_law_263 ?_
  refine VM_sld (i + 2) hX (by omega) ((w32_of (by omega) (by omega)).trans (by omega)) dL_law_264 ?_
  refine VM_aload_n X dL_law_265 1 rfl ?_
  refine VM_iload X dL_law_266 0 rfl ?_
  refine VM_iconst X dL_law_268 ?_
  refine VM_iadd X dL_law_269 ?_
  refine VM_sld (i + 3) hX (by omega) ((w32_of (by omega) (by omega)).trans (by omega)) dL_law_270 ?_
  refine VM_aload_n X dL_law_271 1 rfl ?_
  refine VM_iload X dL_law_272 0 rfl ?_
  refine VM_iconst X dL_law_274 ?_
  refine VM_iadd X dL_law_275 ?_
  refine VM_sld (i + 4) hX (by omega) ((w32_of (by omega) (by omega)).trans (by omega)) dL_law_276 ?_
  refine VM_aload_n X dL_law_277 1 rfl ?_
  refine VM_iload X dL_law_278 0 rfl ?_
  refine VM_iconst X dL_law_280 ?_
  refine VM_iadd X dL_law_281 ?_
  refine VM_sld (i + 5) hX (by omega) ((w32_of (by omega) (by omega)).trans (by omega)) dL_law_282 ?_
  obtain ⟨c283, hc283, h⟩ := bind_some_eq h
  refine VM_callXA (ci := 0) (N := 18) (T := TX1) (As := [vI (xs (i + 1)).toInt, vI (xs (i + 2)).toInt, vI (xs (i + 3)).toInt, vI (xs (i + 4)).toInt, vI (xs (i + 5)).toInt]) (rest := []) (s1 := [vI c283.1]) (o := 0) X hA hKI (con_x_feed N K z hKI.ks g (xs (i + 1)).toInt (xs (i + 2)).toInt (xs (i + 3)).toInt (xs (i + 4)).toInt (xs (i + 5)).toInt c283 hc283) gwM_feed_138 hdM_feed ⟨Nat.le_of_ble_eq_true rfl, Nat.le_of_ble_eq_true rfl⟩ rfl (by decide) (hKI.1.1.at 0 rfl) rfl rfl (Nat.le_of_ble_eq_true rfl) dL_law_283 rfl rfl (fun hKSc => ?_)
  have hKI := hKI.on hKSc
  refine VM_aload_n X dL_law_286 3 rfl ?_
  refine VM_aload_n X dL_law_287 1 rfl ?_
  refine VM_iload X dL_law_288 0 rfl ?_
  refine VM_iconst X dL_law_290 ?_
  refine VM_iadd X dL_law_291 ?_
  refine VM_sld (i + 1) hX (by omega) ((w32_of (by omega) (by omega)).trans (by omega)) dL_law_292 ?_
  refine VM_aload_n X dL_law_293 1 rfl ?_
  refine VM_iload X dL_law_294 0 rfl ?_
  refine VM_iconst X dL_law_296 ?_
  refine VM_iadd X dL_law_297 ?_
  refine VM_sld (i + 2) hX (by omega) ((w32_of (by omega) (by omega)).trans (by omega)) dL_law_298 ?_
  refine VM_aload_n X dL_law_299 1 rfl ?_
  refine VM_iload X dL_law_300 0 rfl ?_
  refine VM_iconst X dL_law_302 ?_
  refine VM_iadd X dL_law_303 ?_
  refine VM_sld (i + 3) hX (by omega) ((w32_of (by omega) (by omega)).trans (by omega)) dL_law_304 ?_
  refine VM_aload_n X dL_law_305 1 rfl ?_
  refine VM_iload X dL_law_306 0 rfl ?_
  refine VM_iconst X dL_law_308 ?_
  refine VM_iadd X dL_law_309 ?_
  refine VM_sld (i + 4) hX (by omega) ((w32_of (by omega) (by omega)).trans (by omega)) dL_law_310 ?_
  refine VM_aload_n X dL_law_311 1 rfl ?_
  refine VM_iload X dL_law_312 0 rfl ?_
  refine VM_iconst X dL_law_314 ?_
  refine VM_iadd X dL_law_315 ?_
  refine VM_sld (i + 5) hX (by omega) ((w32_of (by omega) (by omega)).trans (by omega)) dL_law_316 ?_
  obtain ⟨c317, hc317, h⟩ := bind_some_eq h
  refine VM_callM (N := 73) (T := TX10) (As := [vI (xs (i + 1)).toInt, vI (xs (i + 2)).toInt, vI (xs (i + 3)).toInt, vI (xs (i + 4)).toInt, vI (xs (i + 5)).toInt]) (rest := [vI c283.1]) (s1 := [vI c317.1, vI c283.1]) X hA hKI (con_m_feed N gm (xs (i + 1)).toInt (xs (i + 2)).toInt (xs (i + 3)).toInt (xs (i + 4)).toInt (xs (i + 5)).toInt c317 hc317) gwN_feed_142 hdN_feed ⟨Nat.le_of_ble_eq_true rfl, Nat.le_of_ble_eq_true rfl⟩ rfl rfl rfl (Nat.le_of_ble_eq_true rfl) dL_law_317 rfl rfl ?_
  refine VM_icmp_eq (tgt := 2918) X dL_law_320 (by decide) h (fun h => ?_) (fun h => by cases h)
  have hr := Option.some.inj h
  subst hr
  exact VM_sub [0, 1, 2, 3, 4] rfl (k hKI)
set_option maxHeartbeats 4000000 in
theorem case_1 {x : CT} {b0 Ls : Nat} {xs : Nat → Int32} (hX : XM_ x code 8 RX0 (some .boolean) b0 Ls xs) (N : Nat) (K : Nat → Nat) (z : Nat) (g gm : GS) (hKI : KI K z) (i : Nat) (hi : i + 7 ≤ Ls) (r : S3 × GS) (h : lc_1 N K z g gm (xs (i + 1)).toInt (xs (i + 2)).toInt (xs (i + 3)).toInt (xs (i + 4)).toInt (xs (i + 5)).toInt (xs (i + 6)).toInt = some r) (k : KI r.1.1 r.1.2.1 → VM x 8 r.1.1 r.1.2.1 r.1.2.2 r.2 2918 [(4, vI (i : Int)), (0, .ref b0), (1, .ref (xb x + 0)), (2, .ref (xb x + 350)), (3, .ref (xb x + 393))] []) : VM x 8 K z g gm 325 [(4, vI (i : Int)), (0, .ref b0), (1, .ref (xb x + 0)), (2, .ref (xb x + 350)), (3, .ref (xb x + 393))] [] := by
  have X := hX.1
  have hA := hX.2.1
  have hLs := hX.2.2.2.2.2
  unfold lc_1 at h
  refine VM_aload_n X dL_law_325 2 rfl ?_
  refine VM_aload_n X dL_law_326 1 rfl ?_
  refine VM_iload X dL_law_327 0 rfl ?_
  refine VM_iconst X dL_law_329 ?_
  refine VM_iadd X dL_law_330 ?_
  refine VM_sld (i + 1) hX (by omega) ((w32_of (by omega) (by omega)).trans (by omega)) dL_law_331 ?_
  refine VM_aload_n X dL_law_332 4 rfl ?_
  obtain ⟨c333, hc333, h⟩ := bind_some_eq h
  refine VM_callS (As := [.ref (xb x + 0), vI (xs (i + 1)).toInt, .ref (xb x + 393)]) (rest := []) (s1 := [vI c333.1]) X hA hKI (con_xLaw0_road N 393 K z hKI.ks hKI.2.2.2.1 g (xs (i + 1)).toInt c333 hc333) gwL_road_143 hdL_road ⟨Nat.le_of_ble_eq_true rfl, Nat.le_of_ble_eq_true rfl⟩ rfl rfl (Nat.le_of_ble_eq_true rfl) dL_law_333 rfl rfl (fun hKSc => ?_)
  have hKI := hKI.on hKSc
  refine VM_istore X dL_law_336 (by decide) (L' := [(5, vI c333.1), (4, vI (i : Int)), (0, .ref b0), (1, .ref (xb x + 0)), (2, .ref (xb x + 350)), (3, .ref (xb x + 393))]) rfl ?_
  refine VM_aload_n X dL_law_338 4 rfl ?_
  refine VM_aload_n X dL_law_339 2 rfl ?_
  refine VM_iload X dL_law_340 1 rfl ?_
  refine VM_iconst X dL_law_342 ?_
  refine VM_iadd X dL_law_343 ?_
  refine VM_sld (i + 1) hX (by omega) ((w32_of (by omega) (by omega)).trans (by omega)) dL_law_344 ?_
  obtain ⟨c345, hc345, h⟩ := bind_some_eq h
  refine VM_callM (N := 73) (T := TX10) (As := [vI (xs (i + 1)).toInt]) (rest := []) (s1 := [vI c345.1]) X hA hKI (con_m_road N gm (xs (i + 1)).toInt c345 hc345) gwN_road_148 hdN_road ⟨Nat.le_of_ble_eq_true rfl, Nat.le_of_ble_eq_true rfl⟩ rfl rfl rfl (Nat.le_of_ble_eq_true rfl) dL_law_345 rfl rfl ?_
  refine VM_istore X dL_law_348 (by decide) (L' := [(6, vI c345.1), (5, vI c333.1), (4, vI (i : Int)), (0, .ref b0), (1, .ref (xb x + 0)), (2, .ref (xb x + 350)), (3, .ref (xb x + 393))]) rfl ?_
  refine VM_aload_n X dL_law_350 5 rfl ?_
  obtain ⟨c351, hc351, h⟩ := bind_some_eq h
  refine VM_callM (N := 73) (T := TX10) (As := []) (rest := []) (s1 := [vI c351]) X hA hKI (con_m_thrown c345.2 c351 hc351) gwN_thrown_149 hdN_thrown ⟨Nat.le_of_ble_eq_true rfl, Nat.le_of_ble_eq_true rfl⟩ rfl rfl rfl (Nat.le_of_ble_eq_true rfl) dL_law_351 rfl rfl ?_
  refine VM_iload X dL_law_354 1 rfl ?_
  refine VM_icmp_eq (tgt := 361) X dL_law_356 (by decide) h (fun h => ?_) (fun h => by cases h)
  refine VM_iload X dL_law_361 1 rfl ?_
  refine VM_if_ne (tgt := 378) X dL_law_363 (by decide) h (fun h => ?_) (fun h => ?_)
  · refine VM_goto (tgt := 2918) X dL_law_378 (by decide) ?_
    have hr := Option.some.inj h
    subst hr
    exact VM_sub [2, 3, 4, 5, 6] rfl (k hKI)
  · refine VM_aload_n X dL_law_366 6 rfl ?_
    refine VM_iconst X dL_law_367 ?_
    refine VM_lald (o := 393) (n := 1) X hKI.2.2.2.1 (by decide) dL_law_368 h (fun v368 h => ?_)
    refine VM_iload X dL_law_369 0 rfl ?_
    refine VM_i2l X dL_law_371 ?_
    refine VM_lcmp X dL_law_372 ?_
    refine VM_if_eq (tgt := 378) X dL_law_373 (by decide) h (fun h => ?_) (fun h => by cases h)
    refine VM_goto (tgt := 2918) X dL_law_378 (by decide) ?_
    have hr := Option.some.inj h
    subst hr
    exact VM_sub [2, 3, 4, 5, 6] rfl (k hKI)
set_option maxHeartbeats 4000000 in
theorem case_2 {x : CT} {b0 Ls : Nat} {xs : Nat → Int32} (hX : XM_ x code 8 RX0 (some .boolean) b0 Ls xs) (N : Nat) (K : Nat → Nat) (z : Nat) (g gm : GS) (hKI : KI K z) (i : Nat) (hi : i + 7 ≤ Ls) (r : S3 × GS) (h : lc_2 N K z g gm (xs (i + 1)).toInt (xs (i + 2)).toInt (xs (i + 3)).toInt (xs (i + 4)).toInt (xs (i + 5)).toInt (xs (i + 6)).toInt = some r) (k : KI r.1.1 r.1.2.1 → VM x 8 r.1.1 r.1.2.1 r.1.2.2 r.2 2918 [(4, vI (i : Int)), (0, .ref b0), (1, .ref (xb x + 0)), (2, .ref (xb x + 350)), (3, .ref (xb x + 393))] []) : VM x 8 K z g gm 381 [(4, vI (i : Int)), (0, .ref b0), (1, .ref (xb x + 0)), (2, .ref (xb x + 350)), (3, .ref (xb x + 393))] [] := by
  have X := hX.1
  have hA := hX.2.1
  have hLs := hX.2.2.2.2.2
  unfold lc_2 at h
  refine VM_aload_n X dL_law_381 2 rfl ?_
  refine VM_aload_n X dL_law_382 1 rfl ?_
  refine VM_iload X dL_law_383 0 rfl ?_
  refine VM_iconst X dL_law_385 ?_
  refine VM_iadd X dL_law_386 ?_
  refine VM_sld (i + 1) hX (by omega) ((w32_of (by omega) (by omega)).trans (by omega)) dL_law_387 ?_
  refine VM_aload_n X dL_law_388 4 rfl ?_
  obtain ⟨c389, hc389, h⟩ := bind_some_eq h
  refine VM_callS (As := [.ref (xb x + 0), vI (xs (i + 1)).toInt, .ref (xb x + 393)]) (rest := []) (s1 := [vI c389.1]) X hA hKI (con_xLaw0_law N 393 K z hKI.ks hKI.2.2.2.1 g (xs (i + 1)).toInt c389 hc389) gwL_law_153 hdL_law ⟨Nat.le_of_ble_eq_true rfl, Nat.le_of_ble_eq_true rfl⟩ rfl rfl (Nat.le_of_ble_eq_true rfl) dL_law_389 rfl rfl (fun hKSc => ?_)
  have hKI := hKI.on hKSc
  refine VM_istore X dL_law_392 (by decide) (L' := [(5, vI c389.1), (4, vI (i : Int)), (0, .ref b0), (1, .ref (xb x + 0)), (2, .ref (xb x + 350)), (3, .ref (xb x + 393))]) rfl ?_
  refine VM_aload_n X dL_law_394 4 rfl ?_
  refine VM_aload_n X dL_law_395 2 rfl ?_
  refine VM_iload X dL_law_396 1 rfl ?_
  refine VM_iconst X dL_law_398 ?_
  refine VM_iadd X dL_law_399 ?_
  refine VM_sld (i + 1) hX (by omega) ((w32_of (by omega) (by omega)).trans (by omega)) dL_law_400 ?_
  obtain ⟨c401, hc401, h⟩ := bind_some_eq h
  refine VM_callM (N := 73) (T := TX10) (As := [vI (xs (i + 1)).toInt]) (rest := []) (s1 := [vI c401.1]) X hA hKI (con_m_law N gm (xs (i + 1)).toInt c401 hc401) gwN_law_155 hdN_law ⟨Nat.le_of_ble_eq_true rfl, Nat.le_of_ble_eq_true rfl⟩ rfl rfl rfl (Nat.le_of_ble_eq_true rfl) dL_law_401 rfl rfl ?_
  refine VM_istore X dL_law_404 (by decide) (L' := [(6, vI c401.1), (5, vI c389.1), (4, vI (i : Int)), (0, .ref b0), (1, .ref (xb x + 0)), (2, .ref (xb x + 350)), (3, .ref (xb x + 393))]) rfl ?_
  refine VM_aload_n X dL_law_406 5 rfl ?_
  obtain ⟨c407, hc407, h⟩ := bind_some_eq h
  refine VM_callM (N := 73) (T := TX10) (As := []) (rest := []) (s1 := [vI c407]) X hA hKI (con_m_thrown c401.2 c407 hc407) gwN_thrown_149 hdN_thrown ⟨Nat.le_of_ble_eq_true rfl, Nat.le_of_ble_eq_true rfl⟩ rfl rfl rfl (Nat.le_of_ble_eq_true rfl) dL_law_407 rfl rfl ?_
  refine VM_iload X dL_law_410 1 rfl ?_
  refine VM_icmp_eq (tgt := 417) X dL_law_412 (by decide) h (fun h => ?_) (fun h => by cases h)
  refine VM_iload X dL_law_417 1 rfl ?_
  refine VM_if_ne (tgt := 434) X dL_law_419 (by decide) h (fun h => ?_) (fun h => ?_)
  · refine VM_goto (tgt := 2918) X dL_law_434 (by decide) ?_
    have hr := Option.some.inj h
    subst hr
    exact VM_sub [2, 3, 4, 5, 6] rfl (k hKI)
  · refine VM_aload_n X dL_law_422 6 rfl ?_
    refine VM_iconst X dL_law_423 ?_
    refine VM_lald (o := 393) (n := 1) X hKI.2.2.2.1 (by decide) dL_law_424 h (fun v424 h => ?_)
    refine VM_iload X dL_law_425 0 rfl ?_
    refine VM_i2l X dL_law_427 ?_
    refine VM_lcmp X dL_law_428 ?_
    refine VM_if_eq (tgt := 434) X dL_law_429 (by decide) h (fun h => ?_) (fun h => by cases h)
    refine VM_goto (tgt := 2918) X dL_law_434 (by decide) ?_
    have hr := Option.some.inj h
    subst hr
    exact VM_sub [2, 3, 4, 5, 6] rfl (k hKI)
set_option maxHeartbeats 4000000 in
theorem case_3 {x : CT} {b0 Ls : Nat} {xs : Nat → Int32} (hX : XM_ x code 8 RX0 (some .boolean) b0 Ls xs) (N : Nat) (K : Nat → Nat) (z : Nat) (g gm : GS) (hKI : KI K z) (i : Nat) (hi : i + 7 ≤ Ls) (r : S3 × GS) (h : lc_3 N K z g gm (xs (i + 1)).toInt (xs (i + 2)).toInt (xs (i + 3)).toInt (xs (i + 4)).toInt (xs (i + 5)).toInt (xs (i + 6)).toInt = some r) (k : KI r.1.1 r.1.2.1 → VM x 8 r.1.1 r.1.2.1 r.1.2.2 r.2 2918 [(4, vI (i : Int)), (0, .ref b0), (1, .ref (xb x + 0)), (2, .ref (xb x + 350)), (3, .ref (xb x + 393))] []) : VM x 8 K z g gm 437 [(4, vI (i : Int)), (0, .ref b0), (1, .ref (xb x + 0)), (2, .ref (xb x + 350)), (3, .ref (xb x + 393))] [] := by
  have X := hX.1
  have hA := hX.2.1
  have hLs := hX.2.2.2.2.2
  unfold lc_3 at h
  refine VM_aload_n X dL_law_437 2 rfl ?_
  refine VM_aload_n X dL_law_438 1 rfl ?_
  refine VM_iload X dL_law_439 0 rfl ?_
  refine VM_iconst X dL_law_441 ?_
  refine VM_iadd X dL_law_442 ?_
  refine VM_sld (i + 1) hX (by omega) ((w32_of (by omega) (by omega)).trans (by omega)) dL_law_443 ?_
  refine VM_aload_n X dL_law_444 4 rfl ?_
  obtain ⟨c445, hc445, h⟩ := bind_some_eq h
  refine VM_callS (As := [.ref (xb x + 0), vI (xs (i + 1)).toInt, .ref (xb x + 393)]) (rest := []) (s1 := [vI c445.1]) X hA hKI (con_xLaw0_plan N 393 K z hKI.ks hKI.2.2.2.1 g (xs (i + 1)).toInt c445 hc445) gwL_plan_156 hdL_plan ⟨Nat.le_of_ble_eq_true rfl, Nat.le_of_ble_eq_true rfl⟩ rfl rfl (Nat.le_of_ble_eq_true rfl) dL_law_445 rfl rfl (fun hKSc => ?_)
  have hKI := hKI.on hKSc
  refine VM_istore X dL_law_448 (by decide) (L' := [(5, vI c445.1), (4, vI (i : Int)), (0, .ref b0), (1, .ref (xb x + 0)), (2, .ref (xb x + 350)), (3, .ref (xb x + 393))]) rfl ?_
  refine VM_aload_n X dL_law_450 4 rfl ?_
  refine VM_aload_n X dL_law_451 2 rfl ?_
  refine VM_iload X dL_law_452 1 rfl ?_
  refine VM_iconst X dL_law_454 ?_
  refine VM_iadd X dL_law_455 ?_
  refine VM_sld (i + 1) hX (by omega) ((w32_of (by omega) (by omega)).trans (by omega)) dL_law_456 ?_
  obtain ⟨c457, hc457, h⟩ := bind_some_eq h
  refine VM_callM (N := 73) (T := TX10) (As := [vI (xs (i + 1)).toInt]) (rest := []) (s1 := [vI c457.1]) X hA hKI (con_m_plan N gm (xs (i + 1)).toInt c457 hc457) gwN_plan_158 hdN_plan ⟨Nat.le_of_ble_eq_true rfl, Nat.le_of_ble_eq_true rfl⟩ rfl rfl rfl (Nat.le_of_ble_eq_true rfl) dL_law_457 rfl rfl ?_
  refine VM_istore X dL_law_460 (by decide) (L' := [(6, vI c457.1), (5, vI c445.1), (4, vI (i : Int)), (0, .ref b0), (1, .ref (xb x + 0)), (2, .ref (xb x + 350)), (3, .ref (xb x + 393))]) rfl ?_
  refine VM_aload_n X dL_law_462 5 rfl ?_
  obtain ⟨c463, hc463, h⟩ := bind_some_eq h
  refine VM_callM (N := 73) (T := TX10) (As := []) (rest := []) (s1 := [vI c463]) X hA hKI (con_m_thrown c457.2 c463 hc463) gwN_thrown_149 hdN_thrown ⟨Nat.le_of_ble_eq_true rfl, Nat.le_of_ble_eq_true rfl⟩ rfl rfl rfl (Nat.le_of_ble_eq_true rfl) dL_law_463 rfl rfl ?_
  refine VM_iload X dL_law_466 1 rfl ?_
  refine VM_icmp_eq (tgt := 473) X dL_law_468 (by decide) h (fun h => ?_) (fun h => by cases h)
  refine VM_iload X dL_law_473 1 rfl ?_
  refine VM_if_ne (tgt := 490) X dL_law_475 (by decide) h (fun h => ?_) (fun h => ?_)
  · refine VM_goto (tgt := 2918) X dL_law_490 (by decide) ?_
    have hr := Option.some.inj h
    subst hr
    exact VM_sub [2, 3, 4, 5, 6] rfl (k hKI)
  · refine VM_aload_n X dL_law_478 6 rfl ?_
    refine VM_iconst X dL_law_479 ?_
    refine VM_lald (o := 393) (n := 1) X hKI.2.2.2.1 (by decide) dL_law_480 h (fun v480 h => ?_)
    refine VM_iload X dL_law_481 0 rfl ?_
    refine VM_i2l X dL_law_483 ?_
    refine VM_lcmp X dL_law_484 ?_
    refine VM_if_eq (tgt := 490) X dL_law_485 (by decide) h (fun h => ?_) (fun h => by cases h)
    refine VM_goto (tgt := 2918) X dL_law_490 (by decide) ?_
    have hr := Option.some.inj h
    subst hr
    exact VM_sub [2, 3, 4, 5, 6] rfl (k hKI)
set_option maxHeartbeats 4000000 in
theorem case_4 {x : CT} {b0 Ls : Nat} {xs : Nat → Int32} (hX : XM_ x code 8 RX0 (some .boolean) b0 Ls xs) (N : Nat) (K : Nat → Nat) (z : Nat) (g gm : GS) (hKI : KI K z) (i : Nat) (hi : i + 7 ≤ Ls) (r : S3 × GS) (h : lc_4 N K z g gm (xs (i + 1)).toInt (xs (i + 2)).toInt (xs (i + 3)).toInt (xs (i + 4)).toInt (xs (i + 5)).toInt (xs (i + 6)).toInt = some r) (k : KI r.1.1 r.1.2.1 → VM x 8 r.1.1 r.1.2.1 r.1.2.2 r.2 2918 [(4, vI (i : Int)), (0, .ref b0), (1, .ref (xb x + 0)), (2, .ref (xb x + 350)), (3, .ref (xb x + 393))] []) : VM x 8 K z g gm 493 [(4, vI (i : Int)), (0, .ref b0), (1, .ref (xb x + 0)), (2, .ref (xb x + 350)), (3, .ref (xb x + 393))] [] := by
  have X := hX.1
  have hA := hX.2.1
  have hLs := hX.2.2.2.2.2
  unfold lc_4 at h
  refine VM_aload_n X dL_law_493 2 rfl ?_
  refine VM_aload_n X dL_law_494 1 rfl ?_
  refine VM_iload X dL_law_495 0 rfl ?_
  refine VM_iconst X dL_law_497 ?_
  refine VM_iadd X dL_law_498 ?_
  refine VM_sld (i + 1) hX (by omega) ((w32_of (by omega) (by omega)).trans (by omega)) dL_law_499 ?_
  refine VM_aload_n X dL_law_500 4 rfl ?_
  obtain ⟨c501, hc501, h⟩ := bind_some_eq h
  refine VM_callS (As := [.ref (xb x + 0), vI (xs (i + 1)).toInt, .ref (xb x + 393)]) (rest := []) (s1 := [vI c501.1]) X hA hKI (con_xLaw0_book N 393 K z hKI.ks hKI.2.2.2.1 g (xs (i + 1)).toInt c501 hc501) gwL_book_159 hdL_book ⟨Nat.le_of_ble_eq_true rfl, Nat.le_of_ble_eq_true rfl⟩ rfl rfl (Nat.le_of_ble_eq_true rfl) dL_law_501 rfl rfl (fun hKSc => ?_)
  have hKI := hKI.on hKSc
  refine VM_istore X dL_law_504 (by decide) (L' := [(5, vI c501.1), (4, vI (i : Int)), (0, .ref b0), (1, .ref (xb x + 0)), (2, .ref (xb x + 350)), (3, .ref (xb x + 393))]) rfl ?_
  refine VM_aload_n X dL_law_506 4 rfl ?_
  refine VM_aload_n X dL_law_507 2 rfl ?_
  refine VM_iload X dL_law_508 1 rfl ?_
  refine VM_iconst X dL_law_510 ?_
  refine VM_iadd X dL_law_511 ?_
  refine VM_sld (i + 1) hX (by omega) ((w32_of (by omega) (by omega)).trans (by omega)) dL_law_512 ?_
  obtain ⟨c513, hc513, h⟩ := bind_some_eq h
  refine VM_callM (N := 73) (T := TX10) (As := [vI (xs (i + 1)).toInt]) (rest := []) (s1 := [vI c513.1]) X hA hKI (con_m_book N gm (xs (i + 1)).toInt c513 hc513) gwN_book_161 hdN_book ⟨Nat.le_of_ble_eq_true rfl, Nat.le_of_ble_eq_true rfl⟩ rfl rfl rfl (Nat.le_of_ble_eq_true rfl) dL_law_513 rfl rfl ?_
  refine VM_istore X dL_law_516 (by decide) (L' := [(6, vI c513.1), (5, vI c501.1), (4, vI (i : Int)), (0, .ref b0), (1, .ref (xb x + 0)), (2, .ref (xb x + 350)), (3, .ref (xb x + 393))]) rfl ?_
  refine VM_aload_n X dL_law_518 5 rfl ?_
  obtain ⟨c519, hc519, h⟩ := bind_some_eq h
  refine VM_callM (N := 73) (T := TX10) (As := []) (rest := []) (s1 := [vI c519]) X hA hKI (con_m_thrown c513.2 c519 hc519) gwN_thrown_149 hdN_thrown ⟨Nat.le_of_ble_eq_true rfl, Nat.le_of_ble_eq_true rfl⟩ rfl rfl rfl (Nat.le_of_ble_eq_true rfl) dL_law_519 rfl rfl ?_
  refine VM_iload X dL_law_522 1 rfl ?_
  refine VM_icmp_eq (tgt := 529) X dL_law_524 (by decide) h (fun h => ?_) (fun h => by cases h)
  refine VM_iload X dL_law_529 1 rfl ?_
  refine VM_if_ne (tgt := 546) X dL_law_531 (by decide) h (fun h => ?_) (fun h => ?_)
  · refine VM_goto (tgt := 2918) X dL_law_546 (by decide) ?_
    have hr := Option.some.inj h
    subst hr
    exact VM_sub [2, 3, 4, 5, 6] rfl (k hKI)
  · refine VM_aload_n X dL_law_534 6 rfl ?_
    refine VM_iconst X dL_law_535 ?_
    refine VM_lald (o := 393) (n := 1) X hKI.2.2.2.1 (by decide) dL_law_536 h (fun v536 h => ?_)
    refine VM_iload X dL_law_537 0 rfl ?_
    refine VM_i2l X dL_law_539 ?_
    refine VM_lcmp X dL_law_540 ?_
    refine VM_if_eq (tgt := 546) X dL_law_541 (by decide) h (fun h => ?_) (fun h => by cases h)
    refine VM_goto (tgt := 2918) X dL_law_546 (by decide) ?_
    have hr := Option.some.inj h
    subst hr
    exact VM_sub [2, 3, 4, 5, 6] rfl (k hKI)
set_option maxHeartbeats 4000000 in
theorem case_5 {x : CT} {b0 Ls : Nat} {xs : Nat → Int32} (hX : XM_ x code 8 RX0 (some .boolean) b0 Ls xs) (N : Nat) (K : Nat → Nat) (z : Nat) (g gm : GS) (hKI : KI K z) (i : Nat) (hi : i + 7 ≤ Ls) (r : S3 × GS) (h : lc_5 N K z g gm (xs (i + 1)).toInt (xs (i + 2)).toInt (xs (i + 3)).toInt (xs (i + 4)).toInt (xs (i + 5)).toInt (xs (i + 6)).toInt = some r) (k : KI r.1.1 r.1.2.1 → VM x 8 r.1.1 r.1.2.1 r.1.2.2 r.2 2918 [(4, vI (i : Int)), (0, .ref b0), (1, .ref (xb x + 0)), (2, .ref (xb x + 350)), (3, .ref (xb x + 393))] []) : VM x 8 K z g gm 549 [(4, vI (i : Int)), (0, .ref b0), (1, .ref (xb x + 0)), (2, .ref (xb x + 350)), (3, .ref (xb x + 393))] [] := by
  have X := hX.1
  have hA := hX.2.1
  have hLs := hX.2.2.2.2.2
  unfold lc_5 at h
  refine VM_aload_n X dL_law_549 2 rfl ?_
  obtain ⟨c550, hc550, h⟩ := bind_some_eq h
  refine VM_callX (ci := 0) (N := 18) (T := TX1) (As := []) (rest := []) (s1 := [vI c550]) (o := 0) X hA hKI (con_x_fault K hKI.1.1 g c550 hc550) gwM_fault_162 hdM_fault ⟨Nat.le_of_ble_eq_true rfl, Nat.le_of_ble_eq_true rfl⟩ rfl (by decide) (hKI.1.1.at 0 rfl) rfl rfl (Nat.le_of_ble_eq_true rfl) dL_law_550 rfl rfl ?_
  refine VM_aload_n X dL_law_553 3 rfl ?_
  obtain ⟨c554, hc554, h⟩ := bind_some_eq h
  refine VM_callM (N := 73) (T := TX10) (As := []) (rest := [vI c550]) (s1 := [vI c554.1, vI c550]) X hA hKI (con_m_fault gm c554 hc554) gwN_fault_165 hdN_fault ⟨Nat.le_of_ble_eq_true rfl, Nat.le_of_ble_eq_true rfl⟩ rfl rfl rfl (Nat.le_of_ble_eq_true rfl) dL_law_554 rfl rfl ?_
  refine VM_icmp_eq (tgt := 2918) X dL_law_557 (by decide) h (fun h => ?_) (fun h => by cases h)
  have hr := Option.some.inj h
  subst hr
  exact VM_sub [0, 1, 2, 3, 4] rfl (k hKI)
set_option maxHeartbeats 4000000 in
theorem case_6 {x : CT} {b0 Ls : Nat} {xs : Nat → Int32} (hX : XM_ x code 8 RX0 (some .boolean) b0 Ls xs) (N : Nat) (K : Nat → Nat) (z : Nat) (g gm : GS) (hKI : KI K z) (i : Nat) (hi : i + 7 ≤ Ls) (r : S3 × GS) (h : lc_6 N K z g gm (xs (i + 1)).toInt (xs (i + 2)).toInt (xs (i + 3)).toInt (xs (i + 4)).toInt (xs (i + 5)).toInt (xs (i + 6)).toInt = some r) (k : KI r.1.1 r.1.2.1 → VM x 8 r.1.1 r.1.2.1 r.1.2.2 r.2 2918 [(4, vI (i : Int)), (0, .ref b0), (1, .ref (xb x + 0)), (2, .ref (xb x + 350)), (3, .ref (xb x + 393))] []) : VM x 8 K z g gm 562 [(4, vI (i : Int)), (0, .ref b0), (1, .ref (xb x + 0)), (2, .ref (xb x + 350)), (3, .ref (xb x + 393))] [] := by
  have X := hX.1
  have hA := hX.2.1
  have hLs := hX.2.2.2.2.2
  unfold lc_6 at h
  refine VM_aload_n X dL_law_562 2 rfl ?_
  refine VM_aload_n X dL_law_563 1 rfl ?_
  refine VM_iload X dL_law_564 0 rfl ?_
  refine VM_iconst X dL_law_566 ?_
  refine VM_iadd X dL_law_567 ?_
  refine VM_sld (i + 1) hX (by omega) ((w32_of (by omega) (by omega)).trans (by omega)) dL_law_568 ?_
  refine VM_aload_n X dL_law_569 4 rfl ?_
  obtain ⟨c570, hc570, h⟩ := bind_some_eq h
  refine VM_callS (As := [.ref (xb x + 0), vI (xs (i + 1)).toInt, .ref (xb x + 393)]) (rest := []) (s1 := [vI c570.1]) X hA hKI (con_xLaw0_told 393 K z hKI.ks hKI.2.2.2.1 g (xs (i + 1)).toInt c570 hc570) gwL_told_166 hdL_told ⟨Nat.le_of_ble_eq_true rfl, Nat.le_of_ble_eq_true rfl⟩ rfl rfl (Nat.le_of_ble_eq_true rfl) dL_law_570 rfl rfl (fun hKSc => ?_)
  have hKI := hKI.on hKSc
  refine VM_istore X dL_law_573 (by decide) (L' := [(5, vI c570.1), (4, vI (i : Int)), (0, .ref b0), (1, .ref (xb x + 0)), (2, .ref (xb x + 350)), (3, .ref (xb x + 393))]) rfl ?_
  refine VM_aload_n X dL_law_575 4 rfl ?_
  refine VM_aload_n X dL_law_576 2 rfl ?_
  refine VM_iload X dL_law_577 1 rfl ?_
  refine VM_iconst X dL_law_579 ?_
  refine VM_iadd X dL_law_580 ?_
  refine VM_sld (i + 1) hX (by omega) ((w32_of (by omega) (by omega)).trans (by omega)) dL_law_581 ?_
  obtain ⟨c582, hc582, h⟩ := bind_some_eq h
  refine VM_callM (N := 73) (T := TX10) (As := [vI (xs (i + 1)).toInt]) (rest := []) (s1 := [vI c582.1]) X hA hKI (con_m_told gm (xs (i + 1)).toInt c582 hc582) gwN_told_168 hdN_told ⟨Nat.le_of_ble_eq_true rfl, Nat.le_of_ble_eq_true rfl⟩ rfl rfl rfl (Nat.le_of_ble_eq_true rfl) dL_law_582 rfl rfl ?_
  refine VM_istore X dL_law_585 (by decide) (L' := [(6, vI c582.1), (5, vI c570.1), (4, vI (i : Int)), (0, .ref b0), (1, .ref (xb x + 0)), (2, .ref (xb x + 350)), (3, .ref (xb x + 393))]) rfl ?_
  refine VM_aload_n X dL_law_587 5 rfl ?_
  obtain ⟨c588, hc588, h⟩ := bind_some_eq h
  refine VM_callM (N := 73) (T := TX10) (As := []) (rest := []) (s1 := [vI c588]) X hA hKI (con_m_thrown c582.2 c588 hc588) gwN_thrown_149 hdN_thrown ⟨Nat.le_of_ble_eq_true rfl, Nat.le_of_ble_eq_true rfl⟩ rfl rfl rfl (Nat.le_of_ble_eq_true rfl) dL_law_588 rfl rfl ?_
  refine VM_iload X dL_law_591 1 rfl ?_
  refine VM_icmp_eq (tgt := 598) X dL_law_593 (by decide) h (fun h => ?_) (fun h => by cases h)
  refine VM_iload X dL_law_598 1 rfl ?_
  refine VM_if_ne (tgt := 615) X dL_law_600 (by decide) h (fun h => ?_) (fun h => ?_)
  · refine VM_goto (tgt := 2918) X dL_law_615 (by decide) ?_
    have hr := Option.some.inj h
    subst hr
    exact VM_sub [2, 3, 4, 5, 6] rfl (k hKI)
  · refine VM_aload_n X dL_law_603 6 rfl ?_
    refine VM_iconst X dL_law_604 ?_
    refine VM_lald (o := 393) (n := 1) X hKI.2.2.2.1 (by decide) dL_law_605 h (fun v605 h => ?_)
    refine VM_iload X dL_law_606 0 rfl ?_
    refine VM_i2l X dL_law_608 ?_
    refine VM_lcmp X dL_law_609 ?_
    refine VM_if_eq (tgt := 615) X dL_law_610 (by decide) h (fun h => ?_) (fun h => by cases h)
    refine VM_goto (tgt := 2918) X dL_law_615 (by decide) ?_
    have hr := Option.some.inj h
    subst hr
    exact VM_sub [2, 3, 4, 5, 6] rfl (k hKI)
set_option maxHeartbeats 4000000 in
theorem case_7 {x : CT} {b0 Ls : Nat} {xs : Nat → Int32} (hX : XM_ x code 8 RX0 (some .boolean) b0 Ls xs) (N : Nat) (K : Nat → Nat) (z : Nat) (g gm : GS) (hKI : KI K z) (i : Nat) (hi : i + 7 ≤ Ls) (r : S3 × GS) (h : lc_7 N K z g gm (xs (i + 1)).toInt (xs (i + 2)).toInt (xs (i + 3)).toInt (xs (i + 4)).toInt (xs (i + 5)).toInt (xs (i + 6)).toInt = some r) (k : KI r.1.1 r.1.2.1 → VM x 8 r.1.1 r.1.2.1 r.1.2.2 r.2 2918 [(4, vI (i : Int)), (0, .ref b0), (1, .ref (xb x + 0)), (2, .ref (xb x + 350)), (3, .ref (xb x + 393))] []) : VM x 8 K z g gm 618 [(4, vI (i : Int)), (0, .ref b0), (1, .ref (xb x + 0)), (2, .ref (xb x + 350)), (3, .ref (xb x + 393))] [] := by
  have X := hX.1
  have hA := hX.2.1
  have hLs := hX.2.2.2.2.2
  unfold lc_7 at h
  refine VM_aload_n X dL_law_618 2 rfl ?_
  refine VM_aload_n X dL_law_619 1 rfl ?_
  refine VM_iload X dL_law_620 0 rfl ?_
  refine VM_iconst X dL_law_622 ?_
  refine VM_iadd X dL_law_623 ?_
  refine VM_sld (i + 1) hX (by omega) ((w32_of (by omega) (by omega)).trans (by omega)) dL_law_624 ?_
  refine VM_aload_n X dL_law_625 1 rfl ?_
  refine VM_iload X dL_law_626 0 rfl ?_
  refine VM_iconst X dL_law_628 ?_
  refine VM_iadd X dL_law_629 ?_
  refine VM_sld (i + 2) hX (by omega) ((w32_of (by omega) (by omega)).trans (by omega)) dL_law_630 ?_
  refine VM_aload_n X dL_law_631 4 rfl ?_
  obtain ⟨c632, hc632, h⟩ := bind_some_eq h
  refine VM_callS (As := [.ref (xb x + 0), vI (xs (i + 1)).toInt, vI (xs (i + 2)).toInt, .ref (xb x + 393)]) (rest := []) (s1 := [vI c632.1]) X hA hKI (con_xLaw0_deed 393 K z hKI.ks hKI.2.2.2.1 g (xs (i + 1)).toInt (xs (i + 2)).toInt c632 hc632) gwL_deed_169 hdL_deed ⟨Nat.le_of_ble_eq_true rfl, Nat.le_of_ble_eq_true rfl⟩ rfl rfl (Nat.le_of_ble_eq_true rfl) dL_law_632 rfl rfl (fun hKSc => ?_)
  have hKI := hKI.on hKSc
  refine VM_istore X dL_law_635 (by decide) (L' := [(5, vI c632.1), (4, vI (i : Int)), (0, .ref b0), (1, .ref (xb x + 0)), (2, .ref (xb x + 350)), (3, .ref (xb x + 393))]) rfl ?_
  refine VM_aload_n X dL_law_637 4 rfl ?_
  refine VM_aload_n X dL_law_638 2 rfl ?_
  refine VM_iload X dL_law_639 1 rfl ?_
  refine VM_iconst X dL_law_641 ?_
  refine VM_iadd X dL_law_642 ?_
  refine VM_sld (i + 1) hX (by omega) ((w32_of (by omega) (by omega)).trans (by omega)) dL_law_643 ?_
  refine VM_aload_n X dL_law_644 2 rfl ?_
  refine VM_iload X dL_law_645 1 rfl ?_
  refine VM_iconst X dL_law_647 ?_
  refine VM_iadd X dL_law_648 ?_
  refine VM_sld (i + 2) hX (by omega) ((w32_of (by omega) (by omega)).trans (by omega)) dL_law_649 ?_
  obtain ⟨c650, hc650, h⟩ := bind_some_eq h
  refine VM_callM (N := 73) (T := TX10) (As := [vI (xs (i + 1)).toInt, vI (xs (i + 2)).toInt]) (rest := []) (s1 := [vI c650.1]) X hA hKI (con_m_deed gm (xs (i + 1)).toInt (xs (i + 2)).toInt c650 hc650) gwN_deed_172 hdN_deed ⟨Nat.le_of_ble_eq_true rfl, Nat.le_of_ble_eq_true rfl⟩ rfl rfl rfl (Nat.le_of_ble_eq_true rfl) dL_law_650 rfl rfl ?_
  refine VM_istore X dL_law_653 (by decide) (L' := [(6, vI c650.1), (5, vI c632.1), (4, vI (i : Int)), (0, .ref b0), (1, .ref (xb x + 0)), (2, .ref (xb x + 350)), (3, .ref (xb x + 393))]) rfl ?_
  refine VM_aload_n X dL_law_655 5 rfl ?_
  obtain ⟨c656, hc656, h⟩ := bind_some_eq h
  refine VM_callM (N := 73) (T := TX10) (As := []) (rest := []) (s1 := [vI c656]) X hA hKI (con_m_thrown c650.2 c656 hc656) gwN_thrown_149 hdN_thrown ⟨Nat.le_of_ble_eq_true rfl, Nat.le_of_ble_eq_true rfl⟩ rfl rfl rfl (Nat.le_of_ble_eq_true rfl) dL_law_656 rfl rfl ?_
  refine VM_iload X dL_law_659 1 rfl ?_
  refine VM_icmp_eq (tgt := 666) X dL_law_661 (by decide) h (fun h => ?_) (fun h => by cases h)
  refine VM_iload X dL_law_666 1 rfl ?_
  refine VM_if_ne (tgt := 683) X dL_law_668 (by decide) h (fun h => ?_) (fun h => ?_)
  · refine VM_goto (tgt := 2918) X dL_law_683 (by decide) ?_
    have hr := Option.some.inj h
    subst hr
    exact VM_sub [2, 3, 4, 5, 6] rfl (k hKI)
  · refine VM_aload_n X dL_law_671 6 rfl ?_
    refine VM_iconst X dL_law_672 ?_
    refine VM_lald (o := 393) (n := 1) X hKI.2.2.2.1 (by decide) dL_law_673 h (fun v673 h => ?_)
    refine VM_iload X dL_law_674 0 rfl ?_
    refine VM_i2l X dL_law_676 ?_
    refine VM_lcmp X dL_law_677 ?_
    refine VM_if_eq (tgt := 683) X dL_law_678 (by decide) h (fun h => ?_) (fun h => by cases h)
    refine VM_goto (tgt := 2918) X dL_law_683 (by decide) ?_
    have hr := Option.some.inj h
    subst hr
    exact VM_sub [2, 3, 4, 5, 6] rfl (k hKI)
set_option maxHeartbeats 4000000 in
theorem case_8 {x : CT} {b0 Ls : Nat} {xs : Nat → Int32} (hX : XM_ x code 8 RX0 (some .boolean) b0 Ls xs) (N : Nat) (K : Nat → Nat) (z : Nat) (g gm : GS) (hKI : KI K z) (i : Nat) (hi : i + 7 ≤ Ls) (r : S3 × GS) (h : lc_8 N K z g gm (xs (i + 1)).toInt (xs (i + 2)).toInt (xs (i + 3)).toInt (xs (i + 4)).toInt (xs (i + 5)).toInt (xs (i + 6)).toInt = some r) (k : KI r.1.1 r.1.2.1 → VM x 8 r.1.1 r.1.2.1 r.1.2.2 r.2 2918 [(4, vI (i : Int)), (0, .ref b0), (1, .ref (xb x + 0)), (2, .ref (xb x + 350)), (3, .ref (xb x + 393))] []) : VM x 8 K z g gm 686 [(4, vI (i : Int)), (0, .ref b0), (1, .ref (xb x + 0)), (2, .ref (xb x + 350)), (3, .ref (xb x + 393))] [] := by
  have X := hX.1
  have hA := hX.2.1
  have hLs := hX.2.2.2.2.2
  unfold lc_8 at h
  refine VM_aload_n X dL_law_686 2 rfl ?_
  refine VM_aload_n X dL_law_687 1 rfl ?_
  refine VM_iload X dL_law_688 0 rfl ?_
  refine VM_iconst X dL_law_690 ?_
  refine VM_iadd X dL_law_691 ?_
  refine VM_sld (i + 1) hX (by omega) ((w32_of (by omega) (by omega)).trans (by omega)) dL_law_692 ?_
  refine VM_aload_n X dL_law_693 4 rfl ?_
  obtain ⟨c694, hc694, h⟩ := bind_some_eq h
  refine VM_callS (As := [.ref (xb x + 0), vI (xs (i + 1)).toInt, .ref (xb x + 393)]) (rest := []) (s1 := [vI c694.1]) X hA hKI (con_xLaw0_strong 393 K z hKI.ks hKI.2.2.2.1 g (xs (i + 1)).toInt c694 hc694) gwL_strong_173 hdL_strong ⟨Nat.le_of_ble_eq_true rfl, Nat.le_of_ble_eq_true rfl⟩ rfl rfl (Nat.le_of_ble_eq_true rfl) dL_law_694 rfl rfl (fun hKSc => ?_)
  have hKI := hKI.on hKSc
  refine VM_istore X dL_law_697 (by decide) (L' := [(5, vI c694.1), (4, vI (i : Int)), (0, .ref b0), (1, .ref (xb x + 0)), (2, .ref (xb x + 350)), (3, .ref (xb x + 393))]) rfl ?_
  refine VM_aload_n X dL_law_699 4 rfl ?_
  refine VM_aload_n X dL_law_700 2 rfl ?_
  refine VM_iload X dL_law_701 1 rfl ?_
  refine VM_iconst X dL_law_703 ?_
  refine VM_iadd X dL_law_704 ?_
  refine VM_sld (i + 1) hX (by omega) ((w32_of (by omega) (by omega)).trans (by omega)) dL_law_705 ?_
  obtain ⟨c706, hc706, h⟩ := bind_some_eq h
  refine VM_callM (N := 73) (T := TX10) (As := [vI (xs (i + 1)).toInt]) (rest := []) (s1 := [vI c706.1]) X hA hKI (con_m_strong gm (xs (i + 1)).toInt c706 hc706) gwN_strong_175 hdN_strong ⟨Nat.le_of_ble_eq_true rfl, Nat.le_of_ble_eq_true rfl⟩ rfl rfl rfl (Nat.le_of_ble_eq_true rfl) dL_law_706 rfl rfl ?_
  refine VM_istore X dL_law_709 (by decide) (L' := [(6, vI c706.1), (5, vI c694.1), (4, vI (i : Int)), (0, .ref b0), (1, .ref (xb x + 0)), (2, .ref (xb x + 350)), (3, .ref (xb x + 393))]) rfl ?_
  refine VM_aload_n X dL_law_711 5 rfl ?_
  obtain ⟨c712, hc712, h⟩ := bind_some_eq h
  refine VM_callM (N := 73) (T := TX10) (As := []) (rest := []) (s1 := [vI c712]) X hA hKI (con_m_thrown c706.2 c712 hc712) gwN_thrown_149 hdN_thrown ⟨Nat.le_of_ble_eq_true rfl, Nat.le_of_ble_eq_true rfl⟩ rfl rfl rfl (Nat.le_of_ble_eq_true rfl) dL_law_712 rfl rfl ?_
  refine VM_iload X dL_law_715 1 rfl ?_
  refine VM_icmp_eq (tgt := 722) X dL_law_717 (by decide) h (fun h => ?_) (fun h => by cases h)
  refine VM_iload X dL_law_722 1 rfl ?_
  refine VM_if_ne (tgt := 739) X dL_law_724 (by decide) h (fun h => ?_) (fun h => ?_)
  · refine VM_goto (tgt := 2918) X dL_law_739 (by decide) ?_
    have hr := Option.some.inj h
    subst hr
    exact VM_sub [2, 3, 4, 5, 6] rfl (k hKI)
  · refine VM_aload_n X dL_law_727 6 rfl ?_
    refine VM_iconst X dL_law_728 ?_
    refine VM_lald (o := 393) (n := 1) X hKI.2.2.2.1 (by decide) dL_law_729 h (fun v729 h => ?_)
    refine VM_iload X dL_law_730 0 rfl ?_
    refine VM_i2l X dL_law_732 ?_
    refine VM_lcmp X dL_law_733 ?_
    refine VM_if_eq (tgt := 739) X dL_law_734 (by decide) h (fun h => ?_) (fun h => by cases h)
    refine VM_goto (tgt := 2918) X dL_law_739 (by decide) ?_
    have hr := Option.some.inj h
    subst hr
    exact VM_sub [2, 3, 4, 5, 6] rfl (k hKI)
set_option maxHeartbeats 4000000 in
theorem case_9 {x : CT} {b0 Ls : Nat} {xs : Nat → Int32} (hX : XM_ x code 8 RX0 (some .boolean) b0 Ls xs) (N : Nat) (K : Nat → Nat) (z : Nat) (g gm : GS) (hKI : KI K z) (i : Nat) (hi : i + 7 ≤ Ls) (r : S3 × GS) (h : lc_9 N K z g gm (xs (i + 1)).toInt (xs (i + 2)).toInt (xs (i + 3)).toInt (xs (i + 4)).toInt (xs (i + 5)).toInt (xs (i + 6)).toInt = some r) (k : KI r.1.1 r.1.2.1 → VM x 8 r.1.1 r.1.2.1 r.1.2.2 r.2 2918 [(4, vI (i : Int)), (0, .ref b0), (1, .ref (xb x + 0)), (2, .ref (xb x + 350)), (3, .ref (xb x + 393))] []) : VM x 8 K z g gm 742 [(4, vI (i : Int)), (0, .ref b0), (1, .ref (xb x + 0)), (2, .ref (xb x + 350)), (3, .ref (xb x + 393))] [] := by
  have X := hX.1
  have hA := hX.2.1
  have hLs := hX.2.2.2.2.2
  unfold lc_9 at h
  refine VM_aload_n X dL_law_742 2 rfl ?_
  refine VM_aload_n X dL_law_743 1 rfl ?_
  refine VM_iload X dL_law_744 0 rfl ?_
  refine VM_iconst X dL_law_746 ?_
  refine VM_iadd X dL_law_747 ?_
  refine VM_sld (i + 1) hX (by omega) ((w32_of (by omega) (by omega)).trans (by omega)) dL_law_748 ?_
  refine VM_aload_n X dL_law_749 4 rfl ?_
  obtain ⟨c750, hc750, h⟩ := bind_some_eq h
  refine VM_callS (As := [.ref (xb x + 0), vI (xs (i + 1)).toInt, .ref (xb x + 393)]) (rest := []) (s1 := [vI c750.1]) X hA hKI (con_xLaw0_bears 393 K z hKI.ks hKI.2.2.2.1 g (xs (i + 1)).toInt c750 hc750) gwL_bears_176 hdL_bears ⟨Nat.le_of_ble_eq_true rfl, Nat.le_of_ble_eq_true rfl⟩ rfl rfl (Nat.le_of_ble_eq_true rfl) dL_law_750 rfl rfl (fun hKSc => ?_)
  have hKI := hKI.on hKSc
  refine VM_istore X dL_law_753 (by decide) (L' := [(5, vI c750.1), (4, vI (i : Int)), (0, .ref b0), (1, .ref (xb x + 0)), (2, .ref (xb x + 350)), (3, .ref (xb x + 393))]) rfl ?_
  refine VM_aload_n X dL_law_755 4 rfl ?_
  refine VM_aload_n X dL_law_756 2 rfl ?_
  refine VM_iload X dL_law_757 1 rfl ?_
  refine VM_iconst X dL_law_759 ?_
  refine VM_iadd X dL_law_760 ?_
  refine VM_sld (i + 1) hX (by omega) ((w32_of (by omega) (by omega)).trans (by omega)) dL_law_761 ?_
  obtain ⟨c762, hc762, h⟩ := bind_some_eq h
  refine VM_callM (N := 73) (T := TX10) (As := [vI (xs (i + 1)).toInt]) (rest := []) (s1 := [vI c762.1]) X hA hKI (con_m_bears gm (xs (i + 1)).toInt c762 hc762) gwN_bears_178 hdN_bears ⟨Nat.le_of_ble_eq_true rfl, Nat.le_of_ble_eq_true rfl⟩ rfl rfl rfl (Nat.le_of_ble_eq_true rfl) dL_law_762 rfl rfl ?_
  refine VM_istore X dL_law_765 (by decide) (L' := [(6, vI c762.1), (5, vI c750.1), (4, vI (i : Int)), (0, .ref b0), (1, .ref (xb x + 0)), (2, .ref (xb x + 350)), (3, .ref (xb x + 393))]) rfl ?_
  refine VM_aload_n X dL_law_767 5 rfl ?_
  obtain ⟨c768, hc768, h⟩ := bind_some_eq h
  refine VM_callM (N := 73) (T := TX10) (As := []) (rest := []) (s1 := [vI c768]) X hA hKI (con_m_thrown c762.2 c768 hc768) gwN_thrown_149 hdN_thrown ⟨Nat.le_of_ble_eq_true rfl, Nat.le_of_ble_eq_true rfl⟩ rfl rfl rfl (Nat.le_of_ble_eq_true rfl) dL_law_768 rfl rfl ?_
  refine VM_iload X dL_law_771 1 rfl ?_
  refine VM_icmp_eq (tgt := 778) X dL_law_773 (by decide) h (fun h => ?_) (fun h => by cases h)
  refine VM_iload X dL_law_778 1 rfl ?_
  refine VM_if_ne (tgt := 795) X dL_law_780 (by decide) h (fun h => ?_) (fun h => ?_)
  · refine VM_goto (tgt := 2918) X dL_law_795 (by decide) ?_
    have hr := Option.some.inj h
    subst hr
    exact VM_sub [2, 3, 4, 5, 6] rfl (k hKI)
  · refine VM_aload_n X dL_law_783 6 rfl ?_
    refine VM_iconst X dL_law_784 ?_
    refine VM_lald (o := 393) (n := 1) X hKI.2.2.2.1 (by decide) dL_law_785 h (fun v785 h => ?_)
    refine VM_iload X dL_law_786 0 rfl ?_
    refine VM_i2l X dL_law_788 ?_
    refine VM_lcmp X dL_law_789 ?_
    refine VM_if_eq (tgt := 795) X dL_law_790 (by decide) h (fun h => ?_) (fun h => by cases h)
    refine VM_goto (tgt := 2918) X dL_law_795 (by decide) ?_
    have hr := Option.some.inj h
    subst hr
    exact VM_sub [2, 3, 4, 5, 6] rfl (k hKI)
set_option maxHeartbeats 4000000 in
theorem case_10 {x : CT} {b0 Ls : Nat} {xs : Nat → Int32} (hX : XM_ x code 8 RX0 (some .boolean) b0 Ls xs) (N : Nat) (K : Nat → Nat) (z : Nat) (g gm : GS) (hKI : KI K z) (i : Nat) (hi : i + 7 ≤ Ls) (r : S3 × GS) (h : lc_10 N K z g gm (xs (i + 1)).toInt (xs (i + 2)).toInt (xs (i + 3)).toInt (xs (i + 4)).toInt (xs (i + 5)).toInt (xs (i + 6)).toInt = some r) (k : KI r.1.1 r.1.2.1 → VM x 8 r.1.1 r.1.2.1 r.1.2.2 r.2 2918 [(4, vI (i : Int)), (0, .ref b0), (1, .ref (xb x + 0)), (2, .ref (xb x + 350)), (3, .ref (xb x + 393))] []) : VM x 8 K z g gm 798 [(4, vI (i : Int)), (0, .ref b0), (1, .ref (xb x + 0)), (2, .ref (xb x + 350)), (3, .ref (xb x + 393))] [] := by
  have X := hX.1
  have hA := hX.2.1
  have hLs := hX.2.2.2.2.2
  unfold lc_10 at h
  refine VM_aload_n X dL_law_798 2 rfl ?_
  refine VM_aload_n X dL_law_799 1 rfl ?_
  refine VM_iload X dL_law_800 0 rfl ?_
  refine VM_iconst X dL_law_802 ?_
  refine VM_iadd X dL_law_803 ?_
  refine VM_sld (i + 1) hX (by omega) ((w32_of (by omega) (by omega)).trans (by omega)) dL_law_804 ?_
  refine VM_aload_n X dL_law_805 4 rfl ?_
  obtain ⟨c806, hc806, h⟩ := bind_some_eq h
  refine VM_callS (As := [.ref (xb x + 0), vI (xs (i + 1)).toInt, .ref (xb x + 393)]) (rest := []) (s1 := [vI c806.1]) X hA hKI (con_xLaw0_rains N 393 K z hKI.ks hKI.2.2.2.1 g (xs (i + 1)).toInt c806 hc806) gwL_rains_179 hdL_rains ⟨Nat.le_of_ble_eq_true rfl, Nat.le_of_ble_eq_true rfl⟩ rfl rfl (Nat.le_of_ble_eq_true rfl) dL_law_806 rfl rfl (fun hKSc => ?_)
  have hKI := hKI.on hKSc
  refine VM_istore X dL_law_809 (by decide) (L' := [(5, vI c806.1), (4, vI (i : Int)), (0, .ref b0), (1, .ref (xb x + 0)), (2, .ref (xb x + 350)), (3, .ref (xb x + 393))]) rfl ?_
  refine VM_aload_n X dL_law_811 4 rfl ?_
  refine VM_aload_n X dL_law_812 2 rfl ?_
  refine VM_iload X dL_law_813 1 rfl ?_
  refine VM_iconst X dL_law_815 ?_
  refine VM_iadd X dL_law_816 ?_
  refine VM_sld (i + 1) hX (by omega) ((w32_of (by omega) (by omega)).trans (by omega)) dL_law_817 ?_
  obtain ⟨c818, hc818, h⟩ := bind_some_eq h
  refine VM_callM (N := 73) (T := TX10) (As := [vI (xs (i + 1)).toInt]) (rest := []) (s1 := [vI c818.1]) X hA hKI (con_m_rains gm (xs (i + 1)).toInt c818 hc818) gwN_rains_181 hdN_rains ⟨Nat.le_of_ble_eq_true rfl, Nat.le_of_ble_eq_true rfl⟩ rfl rfl rfl (Nat.le_of_ble_eq_true rfl) dL_law_818 rfl rfl ?_
  refine VM_istore X dL_law_821 (by decide) (L' := [(6, vI c818.1), (5, vI c806.1), (4, vI (i : Int)), (0, .ref b0), (1, .ref (xb x + 0)), (2, .ref (xb x + 350)), (3, .ref (xb x + 393))]) rfl ?_
  refine VM_aload_n X dL_law_823 5 rfl ?_
  obtain ⟨c824, hc824, h⟩ := bind_some_eq h
  refine VM_callM (N := 73) (T := TX10) (As := []) (rest := []) (s1 := [vI c824]) X hA hKI (con_m_thrown c818.2 c824 hc824) gwN_thrown_149 hdN_thrown ⟨Nat.le_of_ble_eq_true rfl, Nat.le_of_ble_eq_true rfl⟩ rfl rfl rfl (Nat.le_of_ble_eq_true rfl) dL_law_824 rfl rfl ?_
  refine VM_iload X dL_law_827 1 rfl ?_
  refine VM_icmp_eq (tgt := 834) X dL_law_829 (by decide) h (fun h => ?_) (fun h => by cases h)
  refine VM_iload X dL_law_834 1 rfl ?_
  refine VM_if_ne (tgt := 858) X dL_law_836 (by decide) h (fun h => ?_) (fun h => ?_)
  · refine VM_goto (tgt := 2918) X dL_law_858 (by decide) ?_
    have hr := Option.some.inj h
    subst hr
    exact VM_sub [2, 3, 4, 5, 6] rfl (k hKI)
  · refine VM_aload_n X dL_law_839 6 rfl ?_
    refine VM_iconst X dL_law_840 ?_
    refine VM_lald (o := 393) (n := 1) X hKI.2.2.2.1 (by decide) dL_law_841 h (fun v841 h => ?_)
    refine VM_iload X dL_law_842 0 rfl ?_
    refine VM_if_eq (tgt := 851) X dL_law_844 (by decide) h (fun h => ?_) (fun h => ?_)
    · refine VM_lconst X (a := 0) dL_law_851 (by decide) ?_
      refine VM_lcmp X dL_law_852 ?_
      refine VM_if_eq (tgt := 858) X dL_law_853 (by decide) h (fun h => ?_) (fun h => by cases h)
      refine VM_goto (tgt := 2918) X dL_law_858 (by decide) ?_
      have hr := Option.some.inj h
      subst hr
      exact VM_sub [2, 3, 4, 5, 6] rfl (k hKI)
    · refine VM_lconst X (a := 1) dL_law_847 (by decide) ?_
      refine VM_goto (tgt := 852) X dL_law_848 (by decide) ?_
      refine VM_lcmp X dL_law_852 ?_
      refine VM_if_eq (tgt := 858) X dL_law_853 (by decide) h (fun h => ?_) (fun h => by cases h)
      refine VM_goto (tgt := 2918) X dL_law_858 (by decide) ?_
      have hr := Option.some.inj h
      subst hr
      exact VM_sub [2, 3, 4, 5, 6] rfl (k hKI)
set_option maxHeartbeats 4000000 in
theorem case_11 {x : CT} {b0 Ls : Nat} {xs : Nat → Int32} (hX : XM_ x code 8 RX0 (some .boolean) b0 Ls xs) (N : Nat) (K : Nat → Nat) (z : Nat) (g gm : GS) (hKI : KI K z) (i : Nat) (hi : i + 7 ≤ Ls) (r : S3 × GS) (h : lc_11 N K z g gm (xs (i + 1)).toInt (xs (i + 2)).toInt (xs (i + 3)).toInt (xs (i + 4)).toInt (xs (i + 5)).toInt (xs (i + 6)).toInt = some r) (k : KI r.1.1 r.1.2.1 → VM x 8 r.1.1 r.1.2.1 r.1.2.2 r.2 2918 [(4, vI (i : Int)), (0, .ref b0), (1, .ref (xb x + 0)), (2, .ref (xb x + 350)), (3, .ref (xb x + 393))] []) : VM x 8 K z g gm 861 [(4, vI (i : Int)), (0, .ref b0), (1, .ref (xb x + 0)), (2, .ref (xb x + 350)), (3, .ref (xb x + 393))] [] := by
  have X := hX.1
  have hA := hX.2.1
  have hLs := hX.2.2.2.2.2
  unfold lc_11 at h
  refine VM_aload_n X dL_law_861 2 rfl ?_
  refine VM_aload_n X dL_law_862 1 rfl ?_
  refine VM_iload X dL_law_863 0 rfl ?_
  refine VM_iconst X dL_law_865 ?_
  refine VM_iadd X dL_law_866 ?_
  refine VM_sld (i + 1) hX (by omega) ((w32_of (by omega) (by omega)).trans (by omega)) dL_law_867 ?_
  refine VM_aload_n X dL_law_868 1 rfl ?_
  refine VM_iload X dL_law_869 0 rfl ?_
  refine VM_iconst X dL_law_871 ?_
  refine VM_iadd X dL_law_872 ?_
  refine VM_sld (i + 2) hX (by omega) ((w32_of (by omega) (by omega)).trans (by omega)) dL_law_873 ?_
  refine VM_aload_n X dL_law_874 1 rfl ?_
  refine VM_iload X dL_law_875 0 rfl ?_
  refine VM_iconst X dL_law_877 ?_
  refine VM_iadd X dL_law_878 ?_
  refine VM_sld (i + 3) hX (by omega) ((w32_of (by omega) (by omega)).trans (by omega)) dL_law_879 ?_
  refine VM_aload_n X dL_law_880 1 rfl ?_
  refine VM_iload X dL_law_881 0 rfl ?_
  refine VM_iconst X dL_law_883 ?_
  refine VM_iadd X dL_law_884 ?_
  refine VM_sld (i + 4) hX (by omega) ((w32_of (by omega) (by omega)).trans (by omega)) dL_law_885 ?_
  refine VM_aload_n X dL_law_886 1 rfl ?_
  refine VM_iload X dL_law_887 0 rfl ?_
  refine VM_iconst X dL_law_889 ?_
  refine VM_iadd X dL_law_890 ?_
  refine VM_sld (i + 5) hX (by omega) ((w32_of (by omega) (by omega)).trans (by omega)) dL_law_891 ?_
  refine VM_aload_n X dL_law_892 1 rfl ?_
  refine VM_iload X dL_law_893 0 rfl ?_
  refine VM_bipush X dL_law_895 (by decide) ?_
  refine VM_iadd X dL_law_897 ?_
  refine VM_sld (i + 6) hX (by omega) ((w32_of (by omega) (by omega)).trans (by omega)) dL_law_898 ?_
  refine VM_aload_n X dL_law_899 4 rfl ?_
  obtain ⟨c900, hc900, h⟩ := bind_some_eq h
  refine VM_callS (As := [.ref (xb x + 0), vI (xs (i + 1)).toInt, vI (xs (i + 2)).toInt, vI (xs (i + 3)).toInt, vI (xs (i + 4)).toInt, vI (xs (i + 5)).toInt, vI (xs (i + 6)).toInt, .ref (xb x + 393)]) (rest := []) (s1 := [vI c900.1]) X hA hKI (con_xLaw0_would 393 K z hKI.ks hKI.2.2.2.1 g (xs (i + 1)).toInt (xs (i + 2)).toInt (xs (i + 3)).toInt (xs (i + 4)).toInt (xs (i + 5)).toInt (xs (i + 6)).toInt c900 hc900) gwL_would_182 hdL_would ⟨Nat.le_of_ble_eq_true rfl, Nat.le_of_ble_eq_true rfl⟩ rfl rfl (Nat.le_of_ble_eq_true rfl) dL_law_900 rfl rfl (fun hKSc => ?_)
  have hKI := hKI.on hKSc
  refine VM_istore X dL_law_903 (by decide) (L' := [(5, vI c900.1), (4, vI (i : Int)), (0, .ref b0), (1, .ref (xb x + 0)), (2, .ref (xb x + 350)), (3, .ref (xb x + 393))]) rfl ?_
  refine VM_aload_n X dL_law_905 4 rfl ?_
  refine VM_aload_n X dL_law_906 2 rfl ?_
  refine VM_iload X dL_law_907 1 rfl ?_
  refine VM_iconst X dL_law_909 ?_
  refine VM_iadd X dL_law_910 ?_
  refine VM_sld (i + 1) hX (by omega) ((w32_of (by omega) (by omega)).trans (by omega)) dL_law_911 ?_
  refine VM_aload_n X dL_law_912 2 rfl ?_
  refine VM_iload X dL_law_913 1 rfl ?_
  refine VM_iconst X dL_law_915 ?_
  refine VM_iadd X dL_law_916 ?_
  refine VM_sld (i + 2) hX (by omega) ((w32_of (by omega) (by omega)).trans (by omega)) dL_law_917 ?_
  refine VM_aload_n X dL_law_918 2 rfl ?_
  refine VM_iload X dL_law_919 1 rfl ?_
  refine VM_iconst X dL_law_921 ?_
  refine VM_iadd X dL_law_922 ?_
  refine VM_sld (i + 3) hX (by omega) ((w32_of (by omega) (by omega)).trans (by omega)) dL_law_923 ?_
  refine VM_aload_n X dL_law_924 2 rfl ?_
  refine VM_iload X dL_law_925 1 rfl ?_
  refine VM_iconst X dL_law_927 ?_
  refine VM_iadd X dL_law_928 ?_
  refine VM_sld (i + 4) hX (by omega) ((w32_of (by omega) (by omega)).trans (by omega)) dL_law_929 ?_
  refine VM_aload_n X dL_law_930 2 rfl ?_
  refine VM_iload X dL_law_931 1 rfl ?_
  refine VM_iconst X dL_law_933 ?_
  refine VM_iadd X dL_law_934 ?_
  refine VM_sld (i + 5) hX (by omega) ((w32_of (by omega) (by omega)).trans (by omega)) dL_law_935 ?_
  refine VM_aload_n X dL_law_936 2 rfl ?_
  refine VM_iload X dL_law_937 1 rfl ?_
  refine VM_bipush X dL_law_939 (by decide) ?_
  refine VM_iadd X dL_law_941 ?_
  refine VM_sld (i + 6) hX (by omega) ((w32_of (by omega) (by omega)).trans (by omega)) dL_law_942 ?_
  obtain ⟨c943, hc943, h⟩ := bind_some_eq h
  refine VM_callM (N := 73) (T := TX10) (As := [vI (xs (i + 1)).toInt, vI (xs (i + 2)).toInt, vI (xs (i + 3)).toInt, vI (xs (i + 4)).toInt, vI (xs (i + 5)).toInt, vI (xs (i + 6)).toInt]) (rest := []) (s1 := [vI c943.1]) X hA hKI (con_m_would N gm (xs (i + 1)).toInt (xs (i + 2)).toInt (xs (i + 3)).toInt (xs (i + 4)).toInt (xs (i + 5)).toInt (xs (i + 6)).toInt c943 hc943) gwN_would_185 hdN_would ⟨Nat.le_of_ble_eq_true rfl, Nat.le_of_ble_eq_true rfl⟩ rfl rfl rfl (Nat.le_of_ble_eq_true rfl) dL_law_943 rfl rfl ?_
  refine VM_istore X dL_law_946 (by decide) (L' := [(6, vI c943.1), (5, vI c900.1), (4, vI (i : Int)), (0, .ref b0), (1, .ref (xb x + 0)), (2, .ref (xb x + 350)), (3, .ref (xb x + 393))]) rfl ?_
  refine VM_aload_n X dL_law_948 5 rfl ?_
  obtain ⟨c949, hc949, h⟩ := bind_some_eq h
  refine VM_callM (N := 73) (T := TX10) (As := []) (rest := []) (s1 := [vI c949]) X hA hKI (con_m_thrown c943.2 c949 hc949) gwN_thrown_149 hdN_thrown ⟨Nat.le_of_ble_eq_true rfl, Nat.le_of_ble_eq_true rfl⟩ rfl rfl rfl (Nat.le_of_ble_eq_true rfl) dL_law_949 rfl rfl ?_
  refine VM_iload X dL_law_952 1 rfl ?_
  refine VM_icmp_eq (tgt := 959) X dL_law_954 (by decide) h (fun h => ?_) (fun h => by cases h)
  refine VM_iload X dL_law_959 1 rfl ?_
  refine VM_if_ne (tgt := 976) X dL_law_961 (by decide) h (fun h => ?_) (fun h => ?_)
  · refine VM_goto (tgt := 2918) X dL_law_976 (by decide) ?_
    have hr := Option.some.inj h
    subst hr
    exact VM_sub [2, 3, 4, 5, 6] rfl (k hKI)
  · refine VM_aload_n X dL_law_964 6 rfl ?_
    refine VM_iconst X dL_law_965 ?_
    refine VM_lald (o := 393) (n := 1) X hKI.2.2.2.1 (by decide) dL_law_966 h (fun v966 h => ?_)
    refine VM_iload X dL_law_967 0 rfl ?_
    refine VM_i2l X dL_law_969 ?_
    refine VM_lcmp X dL_law_970 ?_
    refine VM_if_eq (tgt := 976) X dL_law_971 (by decide) h (fun h => ?_) (fun h => by cases h)
    refine VM_goto (tgt := 2918) X dL_law_976 (by decide) ?_
    have hr := Option.some.inj h
    subst hr
    exact VM_sub [2, 3, 4, 5, 6] rfl (k hKI)
set_option maxHeartbeats 4000000 in
theorem case_12 {x : CT} {b0 Ls : Nat} {xs : Nat → Int32} (hX : XM_ x code 8 RX0 (some .boolean) b0 Ls xs) (N : Nat) (K : Nat → Nat) (z : Nat) (g gm : GS) (hKI : KI K z) (i : Nat) (hi : i + 7 ≤ Ls) (r : S3 × GS) (h : lc_12 N K z g gm (xs (i + 1)).toInt (xs (i + 2)).toInt (xs (i + 3)).toInt (xs (i + 4)).toInt (xs (i + 5)).toInt (xs (i + 6)).toInt = some r) (k : KI r.1.1 r.1.2.1 → VM x 8 r.1.1 r.1.2.1 r.1.2.2 r.2 2918 [(4, vI (i : Int)), (0, .ref b0), (1, .ref (xb x + 0)), (2, .ref (xb x + 350)), (3, .ref (xb x + 393))] []) : VM x 8 K z g gm 979 [(4, vI (i : Int)), (0, .ref b0), (1, .ref (xb x + 0)), (2, .ref (xb x + 350)), (3, .ref (xb x + 393))] [] := by
  have X := hX.1
  have hA := hX.2.1
  have hLs := hX.2.2.2.2.2
  unfold lc_12 at h
  refine VM_aload_n X dL_law_979 2 rfl ?_
  refine VM_aload_n X dL_law_980 1 rfl ?_
  refine VM_iload X dL_law_981 0 rfl ?_
  refine VM_iconst X dL_law_983 ?_
  refine VM_iadd X dL_law_984 ?_
  refine VM_sld (i + 1) hX (by omega) ((w32_of (by omega) (by omega)).trans (by omega)) dL_law_985 ?_
  refine VM_aload_n X dL_law_986 1 rfl ?_
  refine VM_iload X dL_law_987 0 rfl ?_
  refine VM_iconst X dL_law_989 ?_
  refine VM_iadd X dL_law_990 ?_
  refine VM_sld (i + 2) hX (by omega) ((w32_of (by omega) (by omega)).trans (by omega)) dL_law_991 ?_
  refine VM_aload_n X dL_law_992 4 rfl ?_
  obtain ⟨c993, hc993, h⟩ := bind_some_eq h
  refine VM_callS (As := [.ref (xb x + 0), vI (xs (i + 1)).toInt, vI (xs (i + 2)).toInt, .ref (xb x + 393)]) (rest := []) (s1 := [vI c993.1]) X hA hKI (con_xLaw0_line N 393 K z hKI.ks hKI.2.2.2.1 g (xs (i + 1)).toInt (xs (i + 2)).toInt c993 hc993) gwL_line_186 hdL_line ⟨Nat.le_of_ble_eq_true rfl, Nat.le_of_ble_eq_true rfl⟩ rfl rfl (Nat.le_of_ble_eq_true rfl) dL_law_993 rfl rfl (fun hKSc => ?_)
  have hKI := hKI.on hKSc
  refine VM_istore X dL_law_996 (by decide) (L' := [(5, vI c993.1), (4, vI (i : Int)), (0, .ref b0), (1, .ref (xb x + 0)), (2, .ref (xb x + 350)), (3, .ref (xb x + 393))]) rfl ?_
  refine VM_aload_n X dL_law_998 4 rfl ?_
  refine VM_aload_n X dL_law_999 2 rfl ?_
  refine VM_iload X dL_law_1000 1 rfl ?_
  refine VM_iconst X dL_law_1002 ?_
  refine VM_iadd X dL_law_1003 ?_
  refine VM_sld (i + 1) hX (by omega) ((w32_of (by omega) (by omega)).trans (by omega)) dL_law_1004 ?_
  refine VM_aload_n X dL_law_1005 2 rfl ?_
  refine VM_iload X dL_law_1006 1 rfl ?_
  refine VM_iconst X dL_law_1008 ?_
  refine VM_iadd X dL_law_1009 ?_
  refine VM_sld (i + 2) hX (by omega) ((w32_of (by omega) (by omega)).trans (by omega)) dL_law_1010 ?_
  obtain ⟨c1011, hc1011, h⟩ := bind_some_eq h
  refine VM_callM (N := 73) (T := TX10) (As := [vI (xs (i + 1)).toInt, vI (xs (i + 2)).toInt]) (rest := []) (s1 := [vI c1011.1]) X hA hKI (con_m_line N gm (xs (i + 1)).toInt (xs (i + 2)).toInt c1011 hc1011) gwN_line_188 hdN_line ⟨Nat.le_of_ble_eq_true rfl, Nat.le_of_ble_eq_true rfl⟩ rfl rfl rfl (Nat.le_of_ble_eq_true rfl) dL_law_1011 rfl rfl ?_
  refine VM_istore X dL_law_1014 (by decide) (L' := [(6, vI c1011.1), (5, vI c993.1), (4, vI (i : Int)), (0, .ref b0), (1, .ref (xb x + 0)), (2, .ref (xb x + 350)), (3, .ref (xb x + 393))]) rfl ?_
  refine VM_aload_n X dL_law_1016 5 rfl ?_
  obtain ⟨c1017, hc1017, h⟩ := bind_some_eq h
  refine VM_callM (N := 73) (T := TX10) (As := []) (rest := []) (s1 := [vI c1017]) X hA hKI (con_m_thrown c1011.2 c1017 hc1017) gwN_thrown_149 hdN_thrown ⟨Nat.le_of_ble_eq_true rfl, Nat.le_of_ble_eq_true rfl⟩ rfl rfl rfl (Nat.le_of_ble_eq_true rfl) dL_law_1017 rfl rfl ?_
  refine VM_iload X dL_law_1020 1 rfl ?_
  refine VM_icmp_eq (tgt := 1027) X dL_law_1022 (by decide) h (fun h => ?_) (fun h => by cases h)
  refine VM_iload X dL_law_1027 1 rfl ?_
  refine VM_if_ne (tgt := 1044) X dL_law_1029 (by decide) h (fun h => ?_) (fun h => ?_)
  · refine VM_goto (tgt := 2918) X dL_law_1044 (by decide) ?_
    have hr := Option.some.inj h
    subst hr
    exact VM_sub [2, 3, 4, 5, 6] rfl (k hKI)
  · refine VM_aload_n X dL_law_1032 6 rfl ?_
    refine VM_iconst X dL_law_1033 ?_
    refine VM_lald (o := 393) (n := 1) X hKI.2.2.2.1 (by decide) dL_law_1034 h (fun v1034 h => ?_)
    refine VM_iload X dL_law_1035 0 rfl ?_
    refine VM_i2l X dL_law_1037 ?_
    refine VM_lcmp X dL_law_1038 ?_
    refine VM_if_eq (tgt := 1044) X dL_law_1039 (by decide) h (fun h => ?_) (fun h => by cases h)
    refine VM_goto (tgt := 2918) X dL_law_1044 (by decide) ?_
    have hr := Option.some.inj h
    subst hr
    exact VM_sub [2, 3, 4, 5, 6] rfl (k hKI)
set_option maxHeartbeats 4000000 in
theorem case_13 {x : CT} {b0 Ls : Nat} {xs : Nat → Int32} (hX : XM_ x code 8 RX0 (some .boolean) b0 Ls xs) (N : Nat) (K : Nat → Nat) (z : Nat) (g gm : GS) (hKI : KI K z) (i : Nat) (hi : i + 7 ≤ Ls) (r : S3 × GS) (h : lc_13 N K z g gm (xs (i + 1)).toInt (xs (i + 2)).toInt (xs (i + 3)).toInt (xs (i + 4)).toInt (xs (i + 5)).toInt (xs (i + 6)).toInt = some r) (k : KI r.1.1 r.1.2.1 → VM x 8 r.1.1 r.1.2.1 r.1.2.2 r.2 2918 [(4, vI (i : Int)), (0, .ref b0), (1, .ref (xb x + 0)), (2, .ref (xb x + 350)), (3, .ref (xb x + 393))] []) : VM x 8 K z g gm 1047 [(4, vI (i : Int)), (0, .ref b0), (1, .ref (xb x + 0)), (2, .ref (xb x + 350)), (3, .ref (xb x + 393))] [] := by
  have X := hX.1
  have hA := hX.2.1
  have hLs := hX.2.2.2.2.2
  unfold lc_13 at h
  refine VM_aload_n X dL_law_1047 2 rfl ?_
  obtain ⟨c1048, hc1048, h⟩ := bind_some_eq h
  refine VM_callX (ci := 0) (N := 18) (T := TX1) (As := []) (rest := []) (s1 := [vI c1048.1]) (o := 0) X hA hKI (con_x_span K hKI.1.1 N g c1048 hc1048) gwM_span_189 hdM_span ⟨Nat.le_of_ble_eq_true rfl, Nat.le_of_ble_eq_true rfl⟩ rfl (by decide) (hKI.1.1.at 0 rfl) rfl rfl (Nat.le_of_ble_eq_true rfl) dL_law_1048 rfl rfl ?_
  refine VM_aload_n X dL_law_1051 3 rfl ?_
  obtain ⟨c1052, hc1052, h⟩ := bind_some_eq h
  refine VM_callM (N := 73) (T := TX10) (As := []) (rest := [vI c1048.1]) (s1 := [vI c1052.1, vI c1048.1]) X hA hKI (con_m_span N gm c1052 hc1052) gwN_span_192 hdN_span ⟨Nat.le_of_ble_eq_true rfl, Nat.le_of_ble_eq_true rfl⟩ rfl rfl rfl (Nat.le_of_ble_eq_true rfl) dL_law_1052 rfl rfl ?_
  refine VM_icmp_eq (tgt := 2918) X dL_law_1055 (by decide) h (fun h => ?_) (fun h => by cases h)
  have hr := Option.some.inj h
  subst hr
  exact VM_sub [0, 1, 2, 3, 4] rfl (k hKI)
set_option maxHeartbeats 4000000 in
theorem case_14 {x : CT} {b0 Ls : Nat} {xs : Nat → Int32} (hX : XM_ x code 8 RX0 (some .boolean) b0 Ls xs) (N : Nat) (K : Nat → Nat) (z : Nat) (g gm : GS) (hKI : KI K z) (i : Nat) (hi : i + 7 ≤ Ls) (r : S3 × GS) (h : lc_14 N K z g gm (xs (i + 1)).toInt (xs (i + 2)).toInt (xs (i + 3)).toInt (xs (i + 4)).toInt (xs (i + 5)).toInt (xs (i + 6)).toInt = some r) (k : KI r.1.1 r.1.2.1 → VM x 8 r.1.1 r.1.2.1 r.1.2.2 r.2 2918 [(4, vI (i : Int)), (0, .ref b0), (1, .ref (xb x + 0)), (2, .ref (xb x + 350)), (3, .ref (xb x + 393))] []) : VM x 8 K z g gm 1060 [(4, vI (i : Int)), (0, .ref b0), (1, .ref (xb x + 0)), (2, .ref (xb x + 350)), (3, .ref (xb x + 393))] [] := by
  have X := hX.1
  have hA := hX.2.1
  have hLs := hX.2.2.2.2.2
  unfold lc_14 at h
  refine VM_aload_n X dL_law_1060 2 rfl ?_
  refine VM_aload_n X dL_law_1061 1 rfl ?_
  refine VM_iload X dL_law_1062 0 rfl ?_
  refine VM_iconst X dL_law_1064 ?_
  refine VM_iadd X dL_law_1065 ?_
  refine VM_sld (i + 1) hX (by omega) ((w32_of (by omega) (by omega)).trans (by omega)) dL_law_1066 ?_
  refine VM_aload_n X dL_law_1067 4 rfl ?_
  obtain ⟨c1068, hc1068, h⟩ := bind_some_eq h
  refine VM_callS (As := [.ref (xb x + 0), vI (xs (i + 1)).toInt, .ref (xb x + 393)]) (rest := []) (s1 := [vI c1068.1]) X hA hKI (con_xLaw0_wet N 393 K z hKI.ks hKI.2.2.2.1 g (xs (i + 1)).toInt c1068 hc1068) gwL_wet_193 hdL_wet ⟨Nat.le_of_ble_eq_true rfl, Nat.le_of_ble_eq_true rfl⟩ rfl rfl (Nat.le_of_ble_eq_true rfl) dL_law_1068 rfl rfl (fun hKSc => ?_)
  have hKI := hKI.on hKSc
  refine VM_istore X dL_law_1071 (by decide) (L' := [(5, vI c1068.1), (4, vI (i : Int)), (0, .ref b0), (1, .ref (xb x + 0)), (2, .ref (xb x + 350)), (3, .ref (xb x + 393))]) rfl ?_
  refine VM_aload_n X dL_law_1073 4 rfl ?_
  refine VM_aload_n X dL_law_1074 2 rfl ?_
  refine VM_iload X dL_law_1075 1 rfl ?_
  refine VM_iconst X dL_law_1077 ?_
  refine VM_iadd X dL_law_1078 ?_
  refine VM_sld (i + 1) hX (by omega) ((w32_of (by omega) (by omega)).trans (by omega)) dL_law_1079 ?_
  obtain ⟨c1080, hc1080, h⟩ := bind_some_eq h
  refine VM_callM (N := 73) (T := TX10) (As := [vI (xs (i + 1)).toInt]) (rest := []) (s1 := [vI c1080.1]) X hA hKI (con_m_wet N gm (xs (i + 1)).toInt c1080 hc1080) gwN_wet_195 hdN_wet ⟨Nat.le_of_ble_eq_true rfl, Nat.le_of_ble_eq_true rfl⟩ rfl rfl rfl (Nat.le_of_ble_eq_true rfl) dL_law_1080 rfl rfl ?_
  refine VM_istore X dL_law_1083 (by decide) (L' := [(6, vI c1080.1), (5, vI c1068.1), (4, vI (i : Int)), (0, .ref b0), (1, .ref (xb x + 0)), (2, .ref (xb x + 350)), (3, .ref (xb x + 393))]) rfl ?_
  refine VM_aload_n X dL_law_1085 5 rfl ?_
  obtain ⟨c1086, hc1086, h⟩ := bind_some_eq h
  refine VM_callM (N := 73) (T := TX10) (As := []) (rest := []) (s1 := [vI c1086]) X hA hKI (con_m_thrown c1080.2 c1086 hc1086) gwN_thrown_149 hdN_thrown ⟨Nat.le_of_ble_eq_true rfl, Nat.le_of_ble_eq_true rfl⟩ rfl rfl rfl (Nat.le_of_ble_eq_true rfl) dL_law_1086 rfl rfl ?_
  refine VM_iload X dL_law_1089 1 rfl ?_
  refine VM_icmp_eq (tgt := 1096) X dL_law_1091 (by decide) h (fun h => ?_) (fun h => by cases h)
  refine VM_iload X dL_law_1096 1 rfl ?_
  refine VM_if_ne (tgt := 1113) X dL_law_1098 (by decide) h (fun h => ?_) (fun h => ?_)
  · refine VM_goto (tgt := 2918) X dL_law_1113 (by decide) ?_
    have hr := Option.some.inj h
    subst hr
    exact VM_sub [2, 3, 4, 5, 6] rfl (k hKI)
  · refine VM_aload_n X dL_law_1101 6 rfl ?_
    refine VM_iconst X dL_law_1102 ?_
    refine VM_lald (o := 393) (n := 1) X hKI.2.2.2.1 (by decide) dL_law_1103 h (fun v1103 h => ?_)
    refine VM_iload X dL_law_1104 0 rfl ?_
    refine VM_i2l X dL_law_1106 ?_
    refine VM_lcmp X dL_law_1107 ?_
    refine VM_if_eq (tgt := 1113) X dL_law_1108 (by decide) h (fun h => ?_) (fun h => by cases h)
    refine VM_goto (tgt := 2918) X dL_law_1113 (by decide) ?_
    have hr := Option.some.inj h
    subst hr
    exact VM_sub [2, 3, 4, 5, 6] rfl (k hKI)
set_option maxHeartbeats 4000000 in
theorem case_15 {x : CT} {b0 Ls : Nat} {xs : Nat → Int32} (hX : XM_ x code 8 RX0 (some .boolean) b0 Ls xs) (N : Nat) (K : Nat → Nat) (z : Nat) (g gm : GS) (hKI : KI K z) (i : Nat) (hi : i + 7 ≤ Ls) (r : S3 × GS) (h : lc_15 N K z g gm (xs (i + 1)).toInt (xs (i + 2)).toInt (xs (i + 3)).toInt (xs (i + 4)).toInt (xs (i + 5)).toInt (xs (i + 6)).toInt = some r) (k : KI r.1.1 r.1.2.1 → VM x 8 r.1.1 r.1.2.1 r.1.2.2 r.2 2918 [(4, vI (i : Int)), (0, .ref b0), (1, .ref (xb x + 0)), (2, .ref (xb x + 350)), (3, .ref (xb x + 393))] []) : VM x 8 K z g gm 1116 [(4, vI (i : Int)), (0, .ref b0), (1, .ref (xb x + 0)), (2, .ref (xb x + 350)), (3, .ref (xb x + 393))] [] := by
  have X := hX.1
  have hA := hX.2.1
  have hLs := hX.2.2.2.2.2
  unfold lc_15 at h
  refine VM_aload_n X dL_law_1116 2 rfl ?_
  refine VM_aload_n X dL_law_1117 1 rfl ?_
  refine VM_iload X dL_law_1118 0 rfl ?_
  refine VM_iconst X dL_law_1120 ?_
  refine VM_iadd X dL_law_1121 ?_
  refine VM_sld (i + 1) hX (by omega) ((w32_of (by omega) (by omega)).trans (by omega)) dL_law_1122 ?_
  refine VM_aload_n X dL_law_1123 4 rfl ?_
  obtain ⟨c1124, hc1124, h⟩ := bind_some_eq h
  refine VM_callS (As := [.ref (xb x + 0), vI (xs (i + 1)).toInt, .ref (xb x + 393)]) (rest := []) (s1 := [vI c1124.1]) X hA hKI (con_xLaw0_idle N 393 K z hKI.ks hKI.2.2.2.1 g (xs (i + 1)).toInt c1124 hc1124) gwL_idle_196 hdL_idle ⟨Nat.le_of_ble_eq_true rfl, Nat.le_of_ble_eq_true rfl⟩ rfl rfl (Nat.le_of_ble_eq_true rfl) dL_law_1124 rfl rfl (fun hKSc => ?_)
  have hKI := hKI.on hKSc
  refine VM_istore X dL_law_1127 (by decide) (L' := [(5, vI c1124.1), (4, vI (i : Int)), (0, .ref b0), (1, .ref (xb x + 0)), (2, .ref (xb x + 350)), (3, .ref (xb x + 393))]) rfl ?_
  refine VM_aload_n X dL_law_1129 4 rfl ?_
  refine VM_aload_n X dL_law_1130 2 rfl ?_
  refine VM_iload X dL_law_1131 1 rfl ?_
  refine VM_iconst X dL_law_1133 ?_
  refine VM_iadd X dL_law_1134 ?_
  refine VM_sld (i + 1) hX (by omega) ((w32_of (by omega) (by omega)).trans (by omega)) dL_law_1135 ?_
  obtain ⟨c1136, hc1136, h⟩ := bind_some_eq h
  refine VM_callM (N := 73) (T := TX10) (As := [vI (xs (i + 1)).toInt]) (rest := []) (s1 := [vI c1136.1]) X hA hKI (con_m_idle N gm (xs (i + 1)).toInt c1136 hc1136) gwN_idle_198 hdN_idle ⟨Nat.le_of_ble_eq_true rfl, Nat.le_of_ble_eq_true rfl⟩ rfl rfl rfl (Nat.le_of_ble_eq_true rfl) dL_law_1136 rfl rfl ?_
  refine VM_istore X dL_law_1139 (by decide) (L' := [(6, vI c1136.1), (5, vI c1124.1), (4, vI (i : Int)), (0, .ref b0), (1, .ref (xb x + 0)), (2, .ref (xb x + 350)), (3, .ref (xb x + 393))]) rfl ?_
  refine VM_aload_n X dL_law_1141 5 rfl ?_
  obtain ⟨c1142, hc1142, h⟩ := bind_some_eq h
  refine VM_callM (N := 73) (T := TX10) (As := []) (rest := []) (s1 := [vI c1142]) X hA hKI (con_m_thrown c1136.2 c1142 hc1142) gwN_thrown_149 hdN_thrown ⟨Nat.le_of_ble_eq_true rfl, Nat.le_of_ble_eq_true rfl⟩ rfl rfl rfl (Nat.le_of_ble_eq_true rfl) dL_law_1142 rfl rfl ?_
  refine VM_iload X dL_law_1145 1 rfl ?_
  refine VM_icmp_eq (tgt := 1152) X dL_law_1147 (by decide) h (fun h => ?_) (fun h => by cases h)
  refine VM_iload X dL_law_1152 1 rfl ?_
  refine VM_if_ne (tgt := 1169) X dL_law_1154 (by decide) h (fun h => ?_) (fun h => ?_)
  · refine VM_goto (tgt := 2918) X dL_law_1169 (by decide) ?_
    have hr := Option.some.inj h
    subst hr
    exact VM_sub [2, 3, 4, 5, 6] rfl (k hKI)
  · refine VM_aload_n X dL_law_1157 6 rfl ?_
    refine VM_iconst X dL_law_1158 ?_
    refine VM_lald (o := 393) (n := 1) X hKI.2.2.2.1 (by decide) dL_law_1159 h (fun v1159 h => ?_)
    refine VM_iload X dL_law_1160 0 rfl ?_
    refine VM_i2l X dL_law_1162 ?_
    refine VM_lcmp X dL_law_1163 ?_
    refine VM_if_eq (tgt := 1169) X dL_law_1164 (by decide) h (fun h => ?_) (fun h => by cases h)
    refine VM_goto (tgt := 2918) X dL_law_1169 (by decide) ?_
    have hr := Option.some.inj h
    subst hr
    exact VM_sub [2, 3, 4, 5, 6] rfl (k hKI)
set_option maxHeartbeats 4000000 in
theorem case_16 {x : CT} {b0 Ls : Nat} {xs : Nat → Int32} (hX : XM_ x code 8 RX0 (some .boolean) b0 Ls xs) (N : Nat) (K : Nat → Nat) (z : Nat) (g gm : GS) (hKI : KI K z) (i : Nat) (hi : i + 7 ≤ Ls) (r : S3 × GS) (h : lc_16 N K z g gm (xs (i + 1)).toInt (xs (i + 2)).toInt (xs (i + 3)).toInt (xs (i + 4)).toInt (xs (i + 5)).toInt (xs (i + 6)).toInt = some r) (k : KI r.1.1 r.1.2.1 → VM x 8 r.1.1 r.1.2.1 r.1.2.2 r.2 2918 [(4, vI (i : Int)), (0, .ref b0), (1, .ref (xb x + 0)), (2, .ref (xb x + 350)), (3, .ref (xb x + 393))] []) : VM x 8 K z g gm 1172 [(4, vI (i : Int)), (0, .ref b0), (1, .ref (xb x + 0)), (2, .ref (xb x + 350)), (3, .ref (xb x + 393))] [] := by
  have X := hX.1
  have hA := hX.2.1
  have hLs := hX.2.2.2.2.2
  unfold lc_16 at h
  refine VM_aload_n X dL_law_1172 2 rfl ?_
  obtain ⟨c1173, hc1173, h⟩ := bind_some_eq h
  refine VM_callX (ci := 0) (N := 18) (T := TX1) (As := []) (rest := []) (s1 := [vI c1173.1]) (o := 0) X hA hKI (con_x_umbrella K hKI.1.1 N g c1173 hc1173) gwM_umbrella_199 hdM_umbrella ⟨Nat.le_of_ble_eq_true rfl, Nat.le_of_ble_eq_true rfl⟩ rfl (by decide) (hKI.1.1.at 0 rfl) rfl rfl (Nat.le_of_ble_eq_true rfl) dL_law_1173 rfl rfl ?_
  refine VM_aload_n X dL_law_1176 3 rfl ?_
  obtain ⟨c1177, hc1177, h⟩ := bind_some_eq h
  refine VM_callM (N := 73) (T := TX10) (As := []) (rest := [vI c1173.1]) (s1 := [vI c1177.1, vI c1173.1]) X hA hKI (con_m_umbrella N gm c1177 hc1177) gwN_umbrella_202 hdN_umbrella ⟨Nat.le_of_ble_eq_true rfl, Nat.le_of_ble_eq_true rfl⟩ rfl rfl rfl (Nat.le_of_ble_eq_true rfl) dL_law_1177 rfl rfl ?_
  refine VM_icmp_eq (tgt := 2918) X dL_law_1180 (by decide) h (fun h => ?_) (fun h => by cases h)
  have hr := Option.some.inj h
  subst hr
  exact VM_sub [0, 1, 2, 3, 4] rfl (k hKI)
set_option maxHeartbeats 4000000 in
theorem case_17 {x : CT} {b0 Ls : Nat} {xs : Nat → Int32} (hX : XM_ x code 8 RX0 (some .boolean) b0 Ls xs) (N : Nat) (K : Nat → Nat) (z : Nat) (g gm : GS) (hKI : KI K z) (i : Nat) (hi : i + 7 ≤ Ls) (r : S3 × GS) (h : lc_17 N K z g gm (xs (i + 1)).toInt (xs (i + 2)).toInt (xs (i + 3)).toInt (xs (i + 4)).toInt (xs (i + 5)).toInt (xs (i + 6)).toInt = some r) (k : KI r.1.1 r.1.2.1 → VM x 8 r.1.1 r.1.2.1 r.1.2.2 r.2 2918 [(4, vI (i : Int)), (0, .ref b0), (1, .ref (xb x + 0)), (2, .ref (xb x + 350)), (3, .ref (xb x + 393))] []) : VM x 8 K z g gm 1185 [(4, vI (i : Int)), (0, .ref b0), (1, .ref (xb x + 0)), (2, .ref (xb x + 350)), (3, .ref (xb x + 393))] [] := by
  have X := hX.1
  have hA := hX.2.1
  have hLs := hX.2.2.2.2.2
  unfold lc_17 at h
  refine VM_aload_n X dL_law_1185 2 rfl ?_
  refine VM_aload_n X dL_law_1186 1 rfl ?_
  refine VM_iload X dL_law_1187 0 rfl ?_
  refine VM_iconst X dL_law_1189 ?_
  refine VM_iadd X dL_law_1190 ?_
  refine VM_sld (i + 1) hX (by omega) ((w32_of (by omega) (by omega)).trans (by omega)) dL_law_1191 ?_
  refine VM_aload_n X dL_law_1192 4 rfl ?_
  obtain ⟨c1193, hc1193, h⟩ := bind_some_eq h
  refine VM_callS (As := [.ref (xb x + 0), vI (xs (i + 1)).toInt, .ref (xb x + 393)]) (rest := []) (s1 := [vI c1193.1]) X hA hKI (con_xLaw0_slack N 393 K z hKI.ks hKI.2.2.2.1 g (xs (i + 1)).toInt c1193 hc1193) gwL_slack_203 hdL_slack ⟨Nat.le_of_ble_eq_true rfl, Nat.le_of_ble_eq_true rfl⟩ rfl rfl (Nat.le_of_ble_eq_true rfl) dL_law_1193 rfl rfl (fun hKSc => ?_)
  have hKI := hKI.on hKSc
  refine VM_istore X dL_law_1196 (by decide) (L' := [(5, vI c1193.1), (4, vI (i : Int)), (0, .ref b0), (1, .ref (xb x + 0)), (2, .ref (xb x + 350)), (3, .ref (xb x + 393))]) rfl ?_
  refine VM_aload_n X dL_law_1198 4 rfl ?_
  refine VM_aload_n X dL_law_1199 2 rfl ?_
  refine VM_iload X dL_law_1200 1 rfl ?_
  refine VM_iconst X dL_law_1202 ?_
  refine VM_iadd X dL_law_1203 ?_
  refine VM_sld (i + 1) hX (by omega) ((w32_of (by omega) (by omega)).trans (by omega)) dL_law_1204 ?_
  obtain ⟨c1205, hc1205, h⟩ := bind_some_eq h
  refine VM_callM (N := 73) (T := TX10) (As := [vI (xs (i + 1)).toInt]) (rest := []) (s1 := [vI c1205.1]) X hA hKI (con_m_slack N gm (xs (i + 1)).toInt c1205 hc1205) gwN_slack_205 hdN_slack ⟨Nat.le_of_ble_eq_true rfl, Nat.le_of_ble_eq_true rfl⟩ rfl rfl rfl (Nat.le_of_ble_eq_true rfl) dL_law_1205 rfl rfl ?_
  refine VM_istore X dL_law_1208 (by decide) (L' := [(6, vI c1205.1), (5, vI c1193.1), (4, vI (i : Int)), (0, .ref b0), (1, .ref (xb x + 0)), (2, .ref (xb x + 350)), (3, .ref (xb x + 393))]) rfl ?_
  refine VM_aload_n X dL_law_1210 5 rfl ?_
  obtain ⟨c1211, hc1211, h⟩ := bind_some_eq h
  refine VM_callM (N := 73) (T := TX10) (As := []) (rest := []) (s1 := [vI c1211]) X hA hKI (con_m_thrown c1205.2 c1211 hc1211) gwN_thrown_149 hdN_thrown ⟨Nat.le_of_ble_eq_true rfl, Nat.le_of_ble_eq_true rfl⟩ rfl rfl rfl (Nat.le_of_ble_eq_true rfl) dL_law_1211 rfl rfl ?_
  refine VM_iload X dL_law_1214 1 rfl ?_
  refine VM_icmp_eq (tgt := 1221) X dL_law_1216 (by decide) h (fun h => ?_) (fun h => by cases h)
  refine VM_iload X dL_law_1221 1 rfl ?_
  refine VM_if_ne (tgt := 1238) X dL_law_1223 (by decide) h (fun h => ?_) (fun h => ?_)
  · refine VM_goto (tgt := 2918) X dL_law_1238 (by decide) ?_
    have hr := Option.some.inj h
    subst hr
    exact VM_sub [2, 3, 4, 5, 6] rfl (k hKI)
  · refine VM_aload_n X dL_law_1226 6 rfl ?_
    refine VM_iconst X dL_law_1227 ?_
    refine VM_lald (o := 393) (n := 1) X hKI.2.2.2.1 (by decide) dL_law_1228 h (fun v1228 h => ?_)
    refine VM_iload X dL_law_1229 0 rfl ?_
    refine VM_i2l X dL_law_1231 ?_
    refine VM_lcmp X dL_law_1232 ?_
    refine VM_if_eq (tgt := 1238) X dL_law_1233 (by decide) h (fun h => ?_) (fun h => by cases h)
    refine VM_goto (tgt := 2918) X dL_law_1238 (by decide) ?_
    have hr := Option.some.inj h
    subst hr
    exact VM_sub [2, 3, 4, 5, 6] rfl (k hKI)
set_option maxHeartbeats 4000000 in
theorem case_18 {x : CT} {b0 Ls : Nat} {xs : Nat → Int32} (hX : XM_ x code 8 RX0 (some .boolean) b0 Ls xs) (N : Nat) (K : Nat → Nat) (z : Nat) (g gm : GS) (hKI : KI K z) (i : Nat) (hi : i + 7 ≤ Ls) (r : S3 × GS) (h : lc_18 N K z g gm (xs (i + 1)).toInt (xs (i + 2)).toInt (xs (i + 3)).toInt (xs (i + 4)).toInt (xs (i + 5)).toInt (xs (i + 6)).toInt = some r) (k : KI r.1.1 r.1.2.1 → VM x 8 r.1.1 r.1.2.1 r.1.2.2 r.2 2918 [(4, vI (i : Int)), (0, .ref b0), (1, .ref (xb x + 0)), (2, .ref (xb x + 350)), (3, .ref (xb x + 393))] []) : VM x 8 K z g gm 1241 [(4, vI (i : Int)), (0, .ref b0), (1, .ref (xb x + 0)), (2, .ref (xb x + 350)), (3, .ref (xb x + 393))] [] := by
  have X := hX.1
  have hA := hX.2.1
  have hLs := hX.2.2.2.2.2
  unfold lc_18 at h
  refine VM_aload_n X dL_law_1241 2 rfl ?_
  obtain ⟨c1242, hc1242, h⟩ := bind_some_eq h
  refine VM_callX (ci := 0) (N := 18) (T := TX1) (As := []) (rest := []) (s1 := [vI c1242.1]) (o := 0) X hA hKI (con_x_urgent K hKI.1.1 N g c1242 hc1242) gwM_urgent_206 hdM_urgent ⟨Nat.le_of_ble_eq_true rfl, Nat.le_of_ble_eq_true rfl⟩ rfl (by decide) (hKI.1.1.at 0 rfl) rfl rfl (Nat.le_of_ble_eq_true rfl) dL_law_1242 rfl rfl ?_
  refine VM_aload_n X dL_law_1245 3 rfl ?_
  obtain ⟨c1246, hc1246, h⟩ := bind_some_eq h
  refine VM_callM (N := 73) (T := TX10) (As := []) (rest := [vI c1242.1]) (s1 := [vI c1246.1, vI c1242.1]) X hA hKI (con_m_urgent N gm c1246 hc1246) gwN_urgent_209 hdN_urgent ⟨Nat.le_of_ble_eq_true rfl, Nat.le_of_ble_eq_true rfl⟩ rfl rfl rfl (Nat.le_of_ble_eq_true rfl) dL_law_1246 rfl rfl ?_
  refine VM_icmp_eq (tgt := 2918) X dL_law_1249 (by decide) h (fun h => ?_) (fun h => by cases h)
  have hr := Option.some.inj h
  subst hr
  exact VM_sub [0, 1, 2, 3, 4] rfl (k hKI)
set_option maxHeartbeats 4000000 in
theorem case_19 {x : CT} {b0 Ls : Nat} {xs : Nat → Int32} (hX : XM_ x code 8 RX0 (some .boolean) b0 Ls xs) (N : Nat) (K : Nat → Nat) (z : Nat) (g gm : GS) (hKI : KI K z) (i : Nat) (hi : i + 7 ≤ Ls) (r : S3 × GS) (h : lc_19 N K z g gm (xs (i + 1)).toInt (xs (i + 2)).toInt (xs (i + 3)).toInt (xs (i + 4)).toInt (xs (i + 5)).toInt (xs (i + 6)).toInt = some r) (k : KI r.1.1 r.1.2.1 → VM x 8 r.1.1 r.1.2.1 r.1.2.2 r.2 2918 [(4, vI (i : Int)), (0, .ref b0), (1, .ref (xb x + 0)), (2, .ref (xb x + 350)), (3, .ref (xb x + 393))] []) : VM x 8 K z g gm 1254 [(4, vI (i : Int)), (0, .ref b0), (1, .ref (xb x + 0)), (2, .ref (xb x + 350)), (3, .ref (xb x + 393))] [] := by
  have X := hX.1
  have hA := hX.2.1
  have hLs := hX.2.2.2.2.2
  unfold lc_19 at h
  refine VM_aload_n X dL_law_1254 2 rfl ?_
  refine VM_aload_n X dL_law_1255 1 rfl ?_
  refine VM_iload X dL_law_1256 0 rfl ?_
  refine VM_iconst X dL_law_1258 ?_
  refine VM_iadd X dL_law_1259 ?_
  refine VM_sld (i + 1) hX (by omega) ((w32_of (by omega) (by omega)).trans (by omega)) dL_law_1260 ?_
  refine VM_aload_n X dL_law_1261 4 rfl ?_
  obtain ⟨c1262, hc1262, h⟩ := bind_some_eq h
  refine VM_callS (As := [.ref (xb x + 0), vI (xs (i + 1)).toInt, .ref (xb x + 393)]) (rest := []) (s1 := [vI c1262.1]) X hA hKI (con_xLaw0_ahead N 393 K z hKI.ks hKI.2.2.2.1 g (xs (i + 1)).toInt c1262 hc1262) gwL_ahead_210 hdL_ahead ⟨Nat.le_of_ble_eq_true rfl, Nat.le_of_ble_eq_true rfl⟩ rfl rfl (Nat.le_of_ble_eq_true rfl) dL_law_1262 rfl rfl (fun hKSc => ?_)
  have hKI := hKI.on hKSc
  refine VM_istore X dL_law_1265 (by decide) (L' := [(5, vI c1262.1), (4, vI (i : Int)), (0, .ref b0), (1, .ref (xb x + 0)), (2, .ref (xb x + 350)), (3, .ref (xb x + 393))]) rfl ?_
  refine VM_aload_n X dL_law_1267 4 rfl ?_
  refine VM_aload_n X dL_law_1268 2 rfl ?_
  refine VM_iload X dL_law_1269 1 rfl ?_
  refine VM_iconst X dL_law_1271 ?_
  refine VM_iadd X dL_law_1272 ?_
  refine VM_sld (i + 1) hX (by omega) ((w32_of (by omega) (by omega)).trans (by omega)) dL_law_1273 ?_
  obtain ⟨c1274, hc1274, h⟩ := bind_some_eq h
  refine VM_callM (N := 73) (T := TX10) (As := [vI (xs (i + 1)).toInt]) (rest := []) (s1 := [vI c1274.1]) X hA hKI (con_m_ahead N gm (xs (i + 1)).toInt c1274 hc1274) gwN_ahead_212 hdN_ahead ⟨Nat.le_of_ble_eq_true rfl, Nat.le_of_ble_eq_true rfl⟩ rfl rfl rfl (Nat.le_of_ble_eq_true rfl) dL_law_1274 rfl rfl ?_
  refine VM_istore X dL_law_1277 (by decide) (L' := [(6, vI c1274.1), (5, vI c1262.1), (4, vI (i : Int)), (0, .ref b0), (1, .ref (xb x + 0)), (2, .ref (xb x + 350)), (3, .ref (xb x + 393))]) rfl ?_
  refine VM_aload_n X dL_law_1279 5 rfl ?_
  obtain ⟨c1280, hc1280, h⟩ := bind_some_eq h
  refine VM_callM (N := 73) (T := TX10) (As := []) (rest := []) (s1 := [vI c1280]) X hA hKI (con_m_thrown c1274.2 c1280 hc1280) gwN_thrown_149 hdN_thrown ⟨Nat.le_of_ble_eq_true rfl, Nat.le_of_ble_eq_true rfl⟩ rfl rfl rfl (Nat.le_of_ble_eq_true rfl) dL_law_1280 rfl rfl ?_
  refine VM_iload X dL_law_1283 1 rfl ?_
  refine VM_icmp_eq (tgt := 1290) X dL_law_1285 (by decide) h (fun h => ?_) (fun h => by cases h)
  refine VM_iload X dL_law_1290 1 rfl ?_
  refine VM_if_ne (tgt := 1307) X dL_law_1292 (by decide) h (fun h => ?_) (fun h => ?_)
  · refine VM_goto (tgt := 2918) X dL_law_1307 (by decide) ?_
    have hr := Option.some.inj h
    subst hr
    exact VM_sub [2, 3, 4, 5, 6] rfl (k hKI)
  · refine VM_aload_n X dL_law_1295 6 rfl ?_
    refine VM_iconst X dL_law_1296 ?_
    refine VM_lald (o := 393) (n := 1) X hKI.2.2.2.1 (by decide) dL_law_1297 h (fun v1297 h => ?_)
    refine VM_iload X dL_law_1298 0 rfl ?_
    refine VM_i2l X dL_law_1300 ?_
    refine VM_lcmp X dL_law_1301 ?_
    refine VM_if_eq (tgt := 1307) X dL_law_1302 (by decide) h (fun h => ?_) (fun h => by cases h)
    refine VM_goto (tgt := 2918) X dL_law_1307 (by decide) ?_
    have hr := Option.some.inj h
    subst hr
    exact VM_sub [2, 3, 4, 5, 6] rfl (k hKI)
set_option maxHeartbeats 4000000 in
theorem case_20 {x : CT} {b0 Ls : Nat} {xs : Nat → Int32} (hX : XM_ x code 8 RX0 (some .boolean) b0 Ls xs) (N : Nat) (K : Nat → Nat) (z : Nat) (g gm : GS) (hKI : KI K z) (i : Nat) (hi : i + 7 ≤ Ls) (r : S3 × GS) (h : lc_20 N K z g gm (xs (i + 1)).toInt (xs (i + 2)).toInt (xs (i + 3)).toInt (xs (i + 4)).toInt (xs (i + 5)).toInt (xs (i + 6)).toInt = some r) (k : KI r.1.1 r.1.2.1 → VM x 8 r.1.1 r.1.2.1 r.1.2.2 r.2 2918 [(4, vI (i : Int)), (0, .ref b0), (1, .ref (xb x + 0)), (2, .ref (xb x + 350)), (3, .ref (xb x + 393))] []) : VM x 8 K z g gm 1310 [(4, vI (i : Int)), (0, .ref b0), (1, .ref (xb x + 0)), (2, .ref (xb x + 350)), (3, .ref (xb x + 393))] [] := by
  have X := hX.1
  have hA := hX.2.1
  have hLs := hX.2.2.2.2.2
  unfold lc_20 at h
  refine VM_aload_n X dL_law_1310 2 rfl ?_
  refine VM_aload_n X dL_law_1311 1 rfl ?_
  refine VM_iload X dL_law_1312 0 rfl ?_
  refine VM_iconst X dL_law_1314 ?_
  refine VM_iadd X dL_law_1315 ?_
  refine VM_sld (i + 1) hX (by omega) ((w32_of (by omega) (by omega)).trans (by omega)) dL_law_1316 ?_
  refine VM_aload_n X dL_law_1317 4 rfl ?_
  obtain ⟨c1318, hc1318, h⟩ := bind_some_eq h
  refine VM_callS (As := [.ref (xb x + 0), vI (xs (i + 1)).toInt, .ref (xb x + 393)]) (rest := []) (s1 := [vI c1318.1]) X hA hKI (con_xLaw0_chain N 393 K z hKI.ks hKI.2.2.2.1 g (xs (i + 1)).toInt c1318 hc1318) gwL_chain_213 hdL_chain ⟨Nat.le_of_ble_eq_true rfl, Nat.le_of_ble_eq_true rfl⟩ rfl rfl (Nat.le_of_ble_eq_true rfl) dL_law_1318 rfl rfl (fun hKSc => ?_)
  have hKI := hKI.on hKSc
  refine VM_istore X dL_law_1321 (by decide) (L' := [(5, vI c1318.1), (4, vI (i : Int)), (0, .ref b0), (1, .ref (xb x + 0)), (2, .ref (xb x + 350)), (3, .ref (xb x + 393))]) rfl ?_
  refine VM_aload_n X dL_law_1323 4 rfl ?_
  refine VM_aload_n X dL_law_1324 2 rfl ?_
  refine VM_iload X dL_law_1325 1 rfl ?_
  refine VM_iconst X dL_law_1327 ?_
  refine VM_iadd X dL_law_1328 ?_
  refine VM_sld (i + 1) hX (by omega) ((w32_of (by omega) (by omega)).trans (by omega)) dL_law_1329 ?_
  obtain ⟨c1330, hc1330, h⟩ := bind_some_eq h
  refine VM_callM (N := 73) (T := TX10) (As := [vI (xs (i + 1)).toInt]) (rest := []) (s1 := [vI c1330.1]) X hA hKI (con_m_chain N gm (xs (i + 1)).toInt c1330 hc1330) gwN_chain_215 hdN_chain ⟨Nat.le_of_ble_eq_true rfl, Nat.le_of_ble_eq_true rfl⟩ rfl rfl rfl (Nat.le_of_ble_eq_true rfl) dL_law_1330 rfl rfl ?_
  refine VM_istore X dL_law_1333 (by decide) (L' := [(6, vI c1330.1), (5, vI c1318.1), (4, vI (i : Int)), (0, .ref b0), (1, .ref (xb x + 0)), (2, .ref (xb x + 350)), (3, .ref (xb x + 393))]) rfl ?_
  refine VM_aload_n X dL_law_1335 5 rfl ?_
  obtain ⟨c1336, hc1336, h⟩ := bind_some_eq h
  refine VM_callM (N := 73) (T := TX10) (As := []) (rest := []) (s1 := [vI c1336]) X hA hKI (con_m_thrown c1330.2 c1336 hc1336) gwN_thrown_149 hdN_thrown ⟨Nat.le_of_ble_eq_true rfl, Nat.le_of_ble_eq_true rfl⟩ rfl rfl rfl (Nat.le_of_ble_eq_true rfl) dL_law_1336 rfl rfl ?_
  refine VM_iload X dL_law_1339 1 rfl ?_
  refine VM_icmp_eq (tgt := 1346) X dL_law_1341 (by decide) h (fun h => ?_) (fun h => by cases h)
  refine VM_iload X dL_law_1346 1 rfl ?_
  refine VM_if_ne (tgt := 1363) X dL_law_1348 (by decide) h (fun h => ?_) (fun h => ?_)
  · refine VM_goto (tgt := 2918) X dL_law_1363 (by decide) ?_
    have hr := Option.some.inj h
    subst hr
    exact VM_sub [2, 3, 4, 5, 6] rfl (k hKI)
  · refine VM_aload_n X dL_law_1351 6 rfl ?_
    refine VM_iconst X dL_law_1352 ?_
    refine VM_lald (o := 393) (n := 1) X hKI.2.2.2.1 (by decide) dL_law_1353 h (fun v1353 h => ?_)
    refine VM_iload X dL_law_1354 0 rfl ?_
    refine VM_i2l X dL_law_1356 ?_
    refine VM_lcmp X dL_law_1357 ?_
    refine VM_if_eq (tgt := 1363) X dL_law_1358 (by decide) h (fun h => ?_) (fun h => by cases h)
    refine VM_goto (tgt := 2918) X dL_law_1363 (by decide) ?_
    have hr := Option.some.inj h
    subst hr
    exact VM_sub [2, 3, 4, 5, 6] rfl (k hKI)
set_option maxHeartbeats 4000000 in
theorem case_21 {x : CT} {b0 Ls : Nat} {xs : Nat → Int32} (hX : XM_ x code 8 RX0 (some .boolean) b0 Ls xs) (N : Nat) (K : Nat → Nat) (z : Nat) (g gm : GS) (hKI : KI K z) (i : Nat) (hi : i + 7 ≤ Ls) (r : S3 × GS) (h : lc_21 N K z g gm (xs (i + 1)).toInt (xs (i + 2)).toInt (xs (i + 3)).toInt (xs (i + 4)).toInt (xs (i + 5)).toInt (xs (i + 6)).toInt = some r) (k : KI r.1.1 r.1.2.1 → VM x 8 r.1.1 r.1.2.1 r.1.2.2 r.2 2918 [(4, vI (i : Int)), (0, .ref b0), (1, .ref (xb x + 0)), (2, .ref (xb x + 350)), (3, .ref (xb x + 393))] []) : VM x 8 K z g gm 1366 [(4, vI (i : Int)), (0, .ref b0), (1, .ref (xb x + 0)), (2, .ref (xb x + 350)), (3, .ref (xb x + 393))] [] := by
  have X := hX.1
  have hA := hX.2.1
  have hLs := hX.2.2.2.2.2
  unfold lc_21 at h
  refine VM_aload_n X dL_law_1366 2 rfl ?_
  refine VM_aload_n X dL_law_1367 1 rfl ?_
  refine VM_iload X dL_law_1368 0 rfl ?_
  refine VM_iconst X dL_law_1370 ?_
  refine VM_iadd X dL_law_1371 ?_
  refine VM_sld (i + 1) hX (by omega) ((w32_of (by omega) (by omega)).trans (by omega)) dL_law_1372 ?_
  refine VM_aload_n X dL_law_1373 4 rfl ?_
  obtain ⟨c1374, hc1374, h⟩ := bind_some_eq h
  refine VM_callS (As := [.ref (xb x + 0), vI (xs (i + 1)).toInt, .ref (xb x + 393)]) (rest := []) (s1 := [vI c1374.1]) X hA hKI (con_xLaw0_soonest N 393 K z hKI.ks hKI.2.2.2.1 g (xs (i + 1)).toInt c1374 hc1374) gwL_soonest_216 hdL_soonest ⟨Nat.le_of_ble_eq_true rfl, Nat.le_of_ble_eq_true rfl⟩ rfl rfl (Nat.le_of_ble_eq_true rfl) dL_law_1374 rfl rfl (fun hKSc => ?_)
  have hKI := hKI.on hKSc
  refine VM_istore X dL_law_1377 (by decide) (L' := [(5, vI c1374.1), (4, vI (i : Int)), (0, .ref b0), (1, .ref (xb x + 0)), (2, .ref (xb x + 350)), (3, .ref (xb x + 393))]) rfl ?_
  refine VM_aload_n X dL_law_1379 4 rfl ?_
  refine VM_aload_n X dL_law_1380 2 rfl ?_
  refine VM_iload X dL_law_1381 1 rfl ?_
  refine VM_iconst X dL_law_1383 ?_
  refine VM_iadd X dL_law_1384 ?_
  refine VM_sld (i + 1) hX (by omega) ((w32_of (by omega) (by omega)).trans (by omega)) dL_law_1385 ?_
  obtain ⟨c1386, hc1386, h⟩ := bind_some_eq h
  refine VM_callM (N := 73) (T := TX10) (As := [vI (xs (i + 1)).toInt]) (rest := []) (s1 := [vI c1386.1]) X hA hKI (con_m_soonest N gm (xs (i + 1)).toInt c1386 hc1386) gwN_soonest_218 hdN_soonest ⟨Nat.le_of_ble_eq_true rfl, Nat.le_of_ble_eq_true rfl⟩ rfl rfl rfl (Nat.le_of_ble_eq_true rfl) dL_law_1386 rfl rfl ?_
  refine VM_istore X dL_law_1389 (by decide) (L' := [(6, vI c1386.1), (5, vI c1374.1), (4, vI (i : Int)), (0, .ref b0), (1, .ref (xb x + 0)), (2, .ref (xb x + 350)), (3, .ref (xb x + 393))]) rfl ?_
  refine VM_aload_n X dL_law_1391 5 rfl ?_
  obtain ⟨c1392, hc1392, h⟩ := bind_some_eq h
  refine VM_callM (N := 73) (T := TX10) (As := []) (rest := []) (s1 := [vI c1392]) X hA hKI (con_m_thrown c1386.2 c1392 hc1392) gwN_thrown_149 hdN_thrown ⟨Nat.le_of_ble_eq_true rfl, Nat.le_of_ble_eq_true rfl⟩ rfl rfl rfl (Nat.le_of_ble_eq_true rfl) dL_law_1392 rfl rfl ?_
  refine VM_iload X dL_law_1395 1 rfl ?_
  refine VM_icmp_eq (tgt := 1402) X dL_law_1397 (by decide) h (fun h => ?_) (fun h => by cases h)
  refine VM_iload X dL_law_1402 1 rfl ?_
  refine VM_if_ne (tgt := 1419) X dL_law_1404 (by decide) h (fun h => ?_) (fun h => ?_)
  · refine VM_goto (tgt := 2918) X dL_law_1419 (by decide) ?_
    have hr := Option.some.inj h
    subst hr
    exact VM_sub [2, 3, 4, 5, 6] rfl (k hKI)
  · refine VM_aload_n X dL_law_1407 6 rfl ?_
    refine VM_iconst X dL_law_1408 ?_
    refine VM_lald (o := 393) (n := 1) X hKI.2.2.2.1 (by decide) dL_law_1409 h (fun v1409 h => ?_)
    refine VM_iload X dL_law_1410 0 rfl ?_
    refine VM_i2l X dL_law_1412 ?_
    refine VM_lcmp X dL_law_1413 ?_
    refine VM_if_eq (tgt := 1419) X dL_law_1414 (by decide) h (fun h => ?_) (fun h => by cases h)
    refine VM_goto (tgt := 2918) X dL_law_1419 (by decide) ?_
    have hr := Option.some.inj h
    subst hr
    exact VM_sub [2, 3, 4, 5, 6] rfl (k hKI)
set_option maxHeartbeats 4000000 in
theorem case_22 {x : CT} {b0 Ls : Nat} {xs : Nat → Int32} (hX : XM_ x code 8 RX0 (some .boolean) b0 Ls xs) (N : Nat) (K : Nat → Nat) (z : Nat) (g gm : GS) (hKI : KI K z) (i : Nat) (hi : i + 7 ≤ Ls) (r : S3 × GS) (h : lc_22 N K z g gm (xs (i + 1)).toInt (xs (i + 2)).toInt (xs (i + 3)).toInt (xs (i + 4)).toInt (xs (i + 5)).toInt (xs (i + 6)).toInt = some r) (k : KI r.1.1 r.1.2.1 → VM x 8 r.1.1 r.1.2.1 r.1.2.2 r.2 2918 [(4, vI (i : Int)), (0, .ref b0), (1, .ref (xb x + 0)), (2, .ref (xb x + 350)), (3, .ref (xb x + 393))] []) : VM x 8 K z g gm 1422 [(4, vI (i : Int)), (0, .ref b0), (1, .ref (xb x + 0)), (2, .ref (xb x + 350)), (3, .ref (xb x + 393))] [] := by
  have X := hX.1
  have hA := hX.2.1
  have hLs := hX.2.2.2.2.2
  unfold lc_22 at h
  refine VM_aload_n X dL_law_1422 2 rfl ?_
  refine VM_aload_n X dL_law_1423 1 rfl ?_
  refine VM_iload X dL_law_1424 0 rfl ?_
  refine VM_iconst X dL_law_1426 ?_
  refine VM_iadd X dL_law_1427 ?_
  refine VM_sld (i + 1) hX (by omega) ((w32_of (by omega) (by omega)).trans (by omega)) dL_law_1428 ?_
  refine VM_aload_n X dL_law_1429 4 rfl ?_
  obtain ⟨c1430, hc1430, h⟩ := bind_some_eq h
  refine VM_callS (As := [.ref (xb x + 0), vI (xs (i + 1)).toInt, .ref (xb x + 393)]) (rest := []) (s1 := [vI c1430.1]) X hA hKI (con_xLaw0_first N 393 K z hKI.ks hKI.2.2.2.1 g (xs (i + 1)).toInt c1430 hc1430) gwL_first_219 hdL_first ⟨Nat.le_of_ble_eq_true rfl, Nat.le_of_ble_eq_true rfl⟩ rfl rfl (Nat.le_of_ble_eq_true rfl) dL_law_1430 rfl rfl (fun hKSc => ?_)
  have hKI := hKI.on hKSc
  refine VM_istore X dL_law_1433 (by decide) (L' := [(5, vI c1430.1), (4, vI (i : Int)), (0, .ref b0), (1, .ref (xb x + 0)), (2, .ref (xb x + 350)), (3, .ref (xb x + 393))]) rfl ?_
  refine VM_aload_n X dL_law_1435 4 rfl ?_
  refine VM_aload_n X dL_law_1436 2 rfl ?_
  refine VM_iload X dL_law_1437 1 rfl ?_
  refine VM_iconst X dL_law_1439 ?_
  refine VM_iadd X dL_law_1440 ?_
  refine VM_sld (i + 1) hX (by omega) ((w32_of (by omega) (by omega)).trans (by omega)) dL_law_1441 ?_
  obtain ⟨c1442, hc1442, h⟩ := bind_some_eq h
  refine VM_callM (N := 73) (T := TX10) (As := [vI (xs (i + 1)).toInt]) (rest := []) (s1 := [vI c1442.1]) X hA hKI (con_m_first N gm (xs (i + 1)).toInt c1442 hc1442) gwN_first_221 hdN_first ⟨Nat.le_of_ble_eq_true rfl, Nat.le_of_ble_eq_true rfl⟩ rfl rfl rfl (Nat.le_of_ble_eq_true rfl) dL_law_1442 rfl rfl ?_
  refine VM_istore X dL_law_1445 (by decide) (L' := [(6, vI c1442.1), (5, vI c1430.1), (4, vI (i : Int)), (0, .ref b0), (1, .ref (xb x + 0)), (2, .ref (xb x + 350)), (3, .ref (xb x + 393))]) rfl ?_
  refine VM_aload_n X dL_law_1447 5 rfl ?_
  obtain ⟨c1448, hc1448, h⟩ := bind_some_eq h
  refine VM_callM (N := 73) (T := TX10) (As := []) (rest := []) (s1 := [vI c1448]) X hA hKI (con_m_thrown c1442.2 c1448 hc1448) gwN_thrown_149 hdN_thrown ⟨Nat.le_of_ble_eq_true rfl, Nat.le_of_ble_eq_true rfl⟩ rfl rfl rfl (Nat.le_of_ble_eq_true rfl) dL_law_1448 rfl rfl ?_
  refine VM_iload X dL_law_1451 1 rfl ?_
  refine VM_icmp_eq (tgt := 1458) X dL_law_1453 (by decide) h (fun h => ?_) (fun h => by cases h)
  refine VM_iload X dL_law_1458 1 rfl ?_
  refine VM_if_ne (tgt := 1475) X dL_law_1460 (by decide) h (fun h => ?_) (fun h => ?_)
  · refine VM_goto (tgt := 2918) X dL_law_1475 (by decide) ?_
    have hr := Option.some.inj h
    subst hr
    exact VM_sub [2, 3, 4, 5, 6] rfl (k hKI)
  · refine VM_aload_n X dL_law_1463 6 rfl ?_
    refine VM_iconst X dL_law_1464 ?_
    refine VM_lald (o := 393) (n := 1) X hKI.2.2.2.1 (by decide) dL_law_1465 h (fun v1465 h => ?_)
    refine VM_iload X dL_law_1466 0 rfl ?_
    refine VM_i2l X dL_law_1468 ?_
    refine VM_lcmp X dL_law_1469 ?_
    refine VM_if_eq (tgt := 1475) X dL_law_1470 (by decide) h (fun h => ?_) (fun h => by cases h)
    refine VM_goto (tgt := 2918) X dL_law_1475 (by decide) ?_
    have hr := Option.some.inj h
    subst hr
    exact VM_sub [2, 3, 4, 5, 6] rfl (k hKI)
set_option maxHeartbeats 4000000 in
theorem case_23 {x : CT} {b0 Ls : Nat} {xs : Nat → Int32} (hX : XM_ x code 8 RX0 (some .boolean) b0 Ls xs) (N : Nat) (K : Nat → Nat) (z : Nat) (g gm : GS) (hKI : KI K z) (i : Nat) (hi : i + 7 ≤ Ls) (r : S3 × GS) (h : lc_23 N K z g gm (xs (i + 1)).toInt (xs (i + 2)).toInt (xs (i + 3)).toInt (xs (i + 4)).toInt (xs (i + 5)).toInt (xs (i + 6)).toInt = some r) (k : KI r.1.1 r.1.2.1 → VM x 8 r.1.1 r.1.2.1 r.1.2.2 r.2 2918 [(4, vI (i : Int)), (0, .ref b0), (1, .ref (xb x + 0)), (2, .ref (xb x + 350)), (3, .ref (xb x + 393))] []) : VM x 8 K z g gm 1478 [(4, vI (i : Int)), (0, .ref b0), (1, .ref (xb x + 0)), (2, .ref (xb x + 350)), (3, .ref (xb x + 393))] [] := by
  have X := hX.1
  have hA := hX.2.1
  have hLs := hX.2.2.2.2.2
  unfold lc_23 at h
  refine VM_aload_n X dL_law_1478 2 rfl ?_
  refine VM_aload_n X dL_law_1479 1 rfl ?_
  refine VM_iload X dL_law_1480 0 rfl ?_
  refine VM_iconst X dL_law_1482 ?_
  refine VM_iadd X dL_law_1483 ?_
  refine VM_sld (i + 1) hX (by omega) ((w32_of (by omega) (by omega)).trans (by omega)) dL_law_1484 ?_
  refine VM_aload_n X dL_law_1485 1 rfl ?_
  refine VM_iload X dL_law_1486 0 rfl ?_
  refine VM_iconst X dL_law_1488 ?_
  refine VM_iadd X dL_law_1489 ?_
  refine VM_sld (i + 2) hX (by omega) ((w32_of (by omega) (by omega)).trans (by omega)) dL_law_1490 ?_
  refine VM_aload_n X dL_law_1491 1 rfl ?_
  refine VM_iload X dL_law_1492 0 rfl ?_
  refine VM_iconst X dL_law_1494 ?_
  refine VM_iadd X dL_law_1495 ?_
  refine VM_sld (i + 3) hX (by omega) ((w32_of (by omega) (by omega)).trans (by omega)) dL_law_1496 ?_
  refine VM_aload_n X dL_law_1497 4 rfl ?_
  obtain ⟨c1498, hc1498, h⟩ := bind_some_eq h
  refine VM_callS (As := [.ref (xb x + 0), vI (xs (i + 1)).toInt, vI (xs (i + 2)).toInt, vI (xs (i + 3)).toInt, .ref (xb x + 393)]) (rest := []) (s1 := [vI c1498.1]) X hA hKI (con_xLaw0_sinks N 393 K z hKI.ks hKI.2.2.2.1 g (xs (i + 1)).toInt (xs (i + 2)).toInt (xs (i + 3)).toInt c1498 hc1498) gwL_sinks_222 hdL_sinks ⟨Nat.le_of_ble_eq_true rfl, Nat.le_of_ble_eq_true rfl⟩ rfl rfl (Nat.le_of_ble_eq_true rfl) dL_law_1498 rfl rfl (fun hKSc => ?_)
  have hKI := hKI.on hKSc
  refine VM_istore X dL_law_1501 (by decide) (L' := [(5, vI c1498.1), (4, vI (i : Int)), (0, .ref b0), (1, .ref (xb x + 0)), (2, .ref (xb x + 350)), (3, .ref (xb x + 393))]) rfl ?_
  refine VM_aload_n X dL_law_1503 4 rfl ?_
  refine VM_aload_n X dL_law_1504 2 rfl ?_
  refine VM_iload X dL_law_1505 1 rfl ?_
  refine VM_iconst X dL_law_1507 ?_
  refine VM_iadd X dL_law_1508 ?_
  refine VM_sld (i + 1) hX (by omega) ((w32_of (by omega) (by omega)).trans (by omega)) dL_law_1509 ?_
  refine VM_aload_n X dL_law_1510 2 rfl ?_
  refine VM_iload X dL_law_1511 1 rfl ?_
  refine VM_iconst X dL_law_1513 ?_
  refine VM_iadd X dL_law_1514 ?_
  refine VM_sld (i + 2) hX (by omega) ((w32_of (by omega) (by omega)).trans (by omega)) dL_law_1515 ?_
  refine VM_aload_n X dL_law_1516 2 rfl ?_
  refine VM_iload X dL_law_1517 1 rfl ?_
  refine VM_iconst X dL_law_1519 ?_
  refine VM_iadd X dL_law_1520 ?_
  refine VM_sld (i + 3) hX (by omega) ((w32_of (by omega) (by omega)).trans (by omega)) dL_law_1521 ?_
  obtain ⟨c1522, hc1522, h⟩ := bind_some_eq h
  refine VM_callM (N := 73) (T := TX10) (As := [vI (xs (i + 1)).toInt, vI (xs (i + 2)).toInt, vI (xs (i + 3)).toInt]) (rest := []) (s1 := [vI c1522.1]) X hA hKI (con_m_sinks N gm (xs (i + 1)).toInt (xs (i + 2)).toInt (xs (i + 3)).toInt c1522 hc1522) gwN_sinks_225 hdN_sinks ⟨Nat.le_of_ble_eq_true rfl, Nat.le_of_ble_eq_true rfl⟩ rfl rfl rfl (Nat.le_of_ble_eq_true rfl) dL_law_1522 rfl rfl ?_
  refine VM_istore X dL_law_1525 (by decide) (L' := [(6, vI c1522.1), (5, vI c1498.1), (4, vI (i : Int)), (0, .ref b0), (1, .ref (xb x + 0)), (2, .ref (xb x + 350)), (3, .ref (xb x + 393))]) rfl ?_
  refine VM_aload_n X dL_law_1527 5 rfl ?_
  obtain ⟨c1528, hc1528, h⟩ := bind_some_eq h
  refine VM_callM (N := 73) (T := TX10) (As := []) (rest := []) (s1 := [vI c1528]) X hA hKI (con_m_thrown c1522.2 c1528 hc1528) gwN_thrown_149 hdN_thrown ⟨Nat.le_of_ble_eq_true rfl, Nat.le_of_ble_eq_true rfl⟩ rfl rfl rfl (Nat.le_of_ble_eq_true rfl) dL_law_1528 rfl rfl ?_
  refine VM_iload X dL_law_1531 1 rfl ?_
  refine VM_icmp_eq (tgt := 1538) X dL_law_1533 (by decide) h (fun h => ?_) (fun h => by cases h)
  refine VM_iload X dL_law_1538 1 rfl ?_
  refine VM_if_ne (tgt := 1555) X dL_law_1540 (by decide) h (fun h => ?_) (fun h => ?_)
  · refine VM_goto (tgt := 2918) X dL_law_1555 (by decide) ?_
    have hr := Option.some.inj h
    subst hr
    exact VM_sub [2, 3, 4, 5, 6] rfl (k hKI)
  · refine VM_aload_n X dL_law_1543 6 rfl ?_
    refine VM_iconst X dL_law_1544 ?_
    refine VM_lald (o := 393) (n := 1) X hKI.2.2.2.1 (by decide) dL_law_1545 h (fun v1545 h => ?_)
    refine VM_iload X dL_law_1546 0 rfl ?_
    refine VM_i2l X dL_law_1548 ?_
    refine VM_lcmp X dL_law_1549 ?_
    refine VM_if_eq (tgt := 1555) X dL_law_1550 (by decide) h (fun h => ?_) (fun h => by cases h)
    refine VM_goto (tgt := 2918) X dL_law_1555 (by decide) ?_
    have hr := Option.some.inj h
    subst hr
    exact VM_sub [2, 3, 4, 5, 6] rfl (k hKI)
set_option maxHeartbeats 4000000 in
theorem case_24 {x : CT} {b0 Ls : Nat} {xs : Nat → Int32} (hX : XM_ x code 8 RX0 (some .boolean) b0 Ls xs) (N : Nat) (K : Nat → Nat) (z : Nat) (g gm : GS) (hKI : KI K z) (i : Nat) (hi : i + 7 ≤ Ls) (r : S3 × GS) (h : lc_24 N K z g gm (xs (i + 1)).toInt (xs (i + 2)).toInt (xs (i + 3)).toInt (xs (i + 4)).toInt (xs (i + 5)).toInt (xs (i + 6)).toInt = some r) (k : KI r.1.1 r.1.2.1 → VM x 8 r.1.1 r.1.2.1 r.1.2.2 r.2 2918 [(4, vI (i : Int)), (0, .ref b0), (1, .ref (xb x + 0)), (2, .ref (xb x + 350)), (3, .ref (xb x + 393))] []) : VM x 8 K z g gm 1558 [(4, vI (i : Int)), (0, .ref b0), (1, .ref (xb x + 0)), (2, .ref (xb x + 350)), (3, .ref (xb x + 393))] [] := by
  have X := hX.1
  have hA := hX.2.1
  have hLs := hX.2.2.2.2.2
  unfold lc_24 at h
  refine VM_aload_n X dL_law_1558 2 rfl ?_
  refine VM_aload_n X dL_law_1559 1 rfl ?_
  refine VM_iload X dL_law_1560 0 rfl ?_
  refine VM_iconst X dL_law_1562 ?_
  refine VM_iadd X dL_law_1563 ?_
  refine VM_sld (i + 1) hX (by omega) ((w32_of (by omega) (by omega)).trans (by omega)) dL_law_1564 ?_
  refine VM_aload_n X dL_law_1565 1 rfl ?_
  refine VM_iload X dL_law_1566 0 rfl ?_
  refine VM_iconst X dL_law_1568 ?_
  refine VM_iadd X dL_law_1569 ?_
  refine VM_sld (i + 2) hX (by omega) ((w32_of (by omega) (by omega)).trans (by omega)) dL_law_1570 ?_
  refine VM_aload_n X dL_law_1571 1 rfl ?_
  refine VM_iload X dL_law_1572 0 rfl ?_
  refine VM_iconst X dL_law_1574 ?_
  refine VM_iadd X dL_law_1575 ?_
  refine VM_sld (i + 3) hX (by omega) ((w32_of (by omega) (by omega)).trans (by omega)) dL_law_1576 ?_
  refine VM_aload_n X dL_law_1577 4 rfl ?_
  obtain ⟨c1578, hc1578, h⟩ := bind_some_eq h
  refine VM_callS (As := [.ref (xb x + 0), vI (xs (i + 1)).toInt, vI (xs (i + 2)).toInt, vI (xs (i + 3)).toInt, .ref (xb x + 393)]) (rest := []) (s1 := [vI c1578.1]) X hA hKI (con_xLaw0_under N 393 K z hKI.ks hKI.2.2.2.1 g (xs (i + 1)).toInt (xs (i + 2)).toInt (xs (i + 3)).toInt c1578 hc1578) gwL_under_226 hdL_under ⟨Nat.le_of_ble_eq_true rfl, Nat.le_of_ble_eq_true rfl⟩ rfl rfl (Nat.le_of_ble_eq_true rfl) dL_law_1578 rfl rfl (fun hKSc => ?_)
  have hKI := hKI.on hKSc
  refine VM_istore X dL_law_1581 (by decide) (L' := [(5, vI c1578.1), (4, vI (i : Int)), (0, .ref b0), (1, .ref (xb x + 0)), (2, .ref (xb x + 350)), (3, .ref (xb x + 393))]) rfl ?_
  refine VM_aload_n X dL_law_1583 4 rfl ?_
  refine VM_aload_n X dL_law_1584 2 rfl ?_
  refine VM_iload X dL_law_1585 1 rfl ?_
  refine VM_iconst X dL_law_1587 ?_
  refine VM_iadd X dL_law_1588 ?_
  refine VM_sld (i + 1) hX (by omega) ((w32_of (by omega) (by omega)).trans (by omega)) dL_law_1589 ?_
  refine VM_aload_n X dL_law_1590 2 rfl ?_
  refine VM_iload X dL_law_1591 1 rfl ?_
  refine VM_iconst X dL_law_1593 ?_
  refine VM_iadd X dL_law_1594 ?_
  refine VM_sld (i + 2) hX (by omega) ((w32_of (by omega) (by omega)).trans (by omega)) dL_law_1595 ?_
  refine VM_aload_n X dL_law_1596 2 rfl ?_
  refine VM_iload X dL_law_1597 1 rfl ?_
  refine VM_iconst X dL_law_1599 ?_
  refine VM_iadd X dL_law_1600 ?_
  refine VM_sld (i + 3) hX (by omega) ((w32_of (by omega) (by omega)).trans (by omega)) dL_law_1601 ?_
  obtain ⟨c1602, hc1602, h⟩ := bind_some_eq h
  refine VM_callM (N := 73) (T := TX10) (As := [vI (xs (i + 1)).toInt, vI (xs (i + 2)).toInt, vI (xs (i + 3)).toInt]) (rest := []) (s1 := [vI c1602.1]) X hA hKI (con_m_under N gm (xs (i + 1)).toInt (xs (i + 2)).toInt (xs (i + 3)).toInt c1602 hc1602) gwN_under_228 hdN_under ⟨Nat.le_of_ble_eq_true rfl, Nat.le_of_ble_eq_true rfl⟩ rfl rfl rfl (Nat.le_of_ble_eq_true rfl) dL_law_1602 rfl rfl ?_
  refine VM_istore X dL_law_1605 (by decide) (L' := [(6, vI c1602.1), (5, vI c1578.1), (4, vI (i : Int)), (0, .ref b0), (1, .ref (xb x + 0)), (2, .ref (xb x + 350)), (3, .ref (xb x + 393))]) rfl ?_
  refine VM_aload_n X dL_law_1607 5 rfl ?_
  obtain ⟨c1608, hc1608, h⟩ := bind_some_eq h
  refine VM_callM (N := 73) (T := TX10) (As := []) (rest := []) (s1 := [vI c1608]) X hA hKI (con_m_thrown c1602.2 c1608 hc1608) gwN_thrown_149 hdN_thrown ⟨Nat.le_of_ble_eq_true rfl, Nat.le_of_ble_eq_true rfl⟩ rfl rfl rfl (Nat.le_of_ble_eq_true rfl) dL_law_1608 rfl rfl ?_
  refine VM_iload X dL_law_1611 1 rfl ?_
  refine VM_icmp_eq (tgt := 1618) X dL_law_1613 (by decide) h (fun h => ?_) (fun h => by cases h)
  refine VM_iload X dL_law_1618 1 rfl ?_
  refine VM_if_ne (tgt := 1635) X dL_law_1620 (by decide) h (fun h => ?_) (fun h => ?_)
  · refine VM_goto (tgt := 2918) X dL_law_1635 (by decide) ?_
    have hr := Option.some.inj h
    subst hr
    exact VM_sub [2, 3, 4, 5, 6] rfl (k hKI)
  · refine VM_aload_n X dL_law_1623 6 rfl ?_
    refine VM_iconst X dL_law_1624 ?_
    refine VM_lald (o := 393) (n := 1) X hKI.2.2.2.1 (by decide) dL_law_1625 h (fun v1625 h => ?_)
    refine VM_iload X dL_law_1626 0 rfl ?_
    refine VM_i2l X dL_law_1628 ?_
    refine VM_lcmp X dL_law_1629 ?_
    refine VM_if_eq (tgt := 1635) X dL_law_1630 (by decide) h (fun h => ?_) (fun h => by cases h)
    refine VM_goto (tgt := 2918) X dL_law_1635 (by decide) ?_
    have hr := Option.some.inj h
    subst hr
    exact VM_sub [2, 3, 4, 5, 6] rfl (k hKI)
set_option maxHeartbeats 4000000 in
theorem case_25 {x : CT} {b0 Ls : Nat} {xs : Nat → Int32} (hX : XM_ x code 8 RX0 (some .boolean) b0 Ls xs) (N : Nat) (K : Nat → Nat) (z : Nat) (g gm : GS) (hKI : KI K z) (i : Nat) (hi : i + 7 ≤ Ls) (r : S3 × GS) (h : lc_25 N K z g gm (xs (i + 1)).toInt (xs (i + 2)).toInt (xs (i + 3)).toInt (xs (i + 4)).toInt (xs (i + 5)).toInt (xs (i + 6)).toInt = some r) (k : KI r.1.1 r.1.2.1 → VM x 8 r.1.1 r.1.2.1 r.1.2.2 r.2 2918 [(4, vI (i : Int)), (0, .ref b0), (1, .ref (xb x + 0)), (2, .ref (xb x + 350)), (3, .ref (xb x + 393))] []) : VM x 8 K z g gm 1638 [(4, vI (i : Int)), (0, .ref b0), (1, .ref (xb x + 0)), (2, .ref (xb x + 350)), (3, .ref (xb x + 393))] [] := by
  have X := hX.1
  have hA := hX.2.1
  have hLs := hX.2.2.2.2.2
  unfold lc_25 at h
  refine VM_aload_n X dL_law_1638 2 rfl ?_
  refine VM_aload_n X dL_law_1639 1 rfl ?_
  refine VM_iload X dL_law_1640 0 rfl ?_
  refine VM_iconst X dL_law_1642 ?_
  refine VM_iadd X dL_law_1643 ?_
  refine VM_sld (i + 1) hX (by omega) ((w32_of (by omega) (by omega)).trans (by omega)) dL_law_1644 ?_
  refine VM_aload_n X dL_law_1645 1 rfl ?_
  refine VM_iload X dL_law_1646 0 rfl ?_
  refine VM_iconst X dL_law_1648 ?_
  refine VM_iadd X dL_law_1649 ?_
  refine VM_sld (i + 2) hX (by omega) ((w32_of (by omega) (by omega)).trans (by omega)) dL_law_1650 ?_
  refine VM_aload_n X dL_law_1651 1 rfl ?_
  refine VM_iload X dL_law_1652 0 rfl ?_
  refine VM_iconst X dL_law_1654 ?_
  refine VM_iadd X dL_law_1655 ?_
  refine VM_sld (i + 3) hX (by omega) ((w32_of (by omega) (by omega)).trans (by omega)) dL_law_1656 ?_
  refine VM_aload_n X dL_law_1657 1 rfl ?_
  refine VM_iload X dL_law_1658 0 rfl ?_
  refine VM_iconst X dL_law_1660 ?_
  refine VM_iadd X dL_law_1661 ?_
  refine VM_sld (i + 4) hX (by omega) ((w32_of (by omega) (by omega)).trans (by omega)) dL_law_1662 ?_
  refine VM_aload_n X dL_law_1663 4 rfl ?_
  obtain ⟨c1664, hc1664, h⟩ := bind_some_eq h
  refine VM_callS (As := [.ref (xb x + 0), vI (xs (i + 1)).toInt, vI (xs (i + 2)).toInt, vI (xs (i + 3)).toInt, vI (xs (i + 4)).toInt, .ref (xb x + 393)]) (rest := []) (s1 := [vI c1664.1]) X hA hKI (con_xLaw0_push N 393 K z hKI.ks hKI.2.2.2.1 g (xs (i + 1)).toInt (xs (i + 2)).toInt (xs (i + 3)).toInt (xs (i + 4)).toInt c1664 hc1664) gwL_push_229 hdL_push ⟨Nat.le_of_ble_eq_true rfl, Nat.le_of_ble_eq_true rfl⟩ rfl rfl (Nat.le_of_ble_eq_true rfl) dL_law_1664 rfl rfl (fun hKSc => ?_)
  have hKI := hKI.on hKSc
  refine VM_istore X dL_law_1667 (by decide) (L' := [(5, vI c1664.1), (4, vI (i : Int)), (0, .ref b0), (1, .ref (xb x + 0)), (2, .ref (xb x + 350)), (3, .ref (xb x + 393))]) rfl ?_
  refine VM_aload_n X dL_law_1669 4 rfl ?_
  refine VM_aload_n X dL_law_1670 2 rfl ?_
  refine VM_iload X dL_law_1671 1 rfl ?_
  refine VM_iconst X dL_law_1673 ?_
  refine VM_iadd X dL_law_1674 ?_
  refine VM_sld (i + 1) hX (by omega) ((w32_of (by omega) (by omega)).trans (by omega)) dL_law_1675 ?_
  refine VM_aload_n X dL_law_1676 2 rfl ?_
  refine VM_iload X dL_law_1677 1 rfl ?_
  refine VM_iconst X dL_law_1679 ?_
  refine VM_iadd X dL_law_1680 ?_
  refine VM_sld (i + 2) hX (by omega) ((w32_of (by omega) (by omega)).trans (by omega)) dL_law_1681 ?_
  refine VM_aload_n X dL_law_1682 2 rfl ?_
  refine VM_iload X dL_law_1683 1 rfl ?_
  refine VM_iconst X dL_law_1685 ?_
  refine VM_iadd X dL_law_1686 ?_
  refine VM_sld (i + 3) hX (by omega) ((w32_of (by omega) (by omega)).trans (by omega)) dL_law_1687 ?_
  refine VM_aload_n X dL_law_1688 2 rfl ?_
  refine VM_iload X dL_law_1689 1 rfl ?_
  refine VM_iconst X dL_law_1691 ?_
  refine VM_iadd X dL_law_1692 ?_
  refine VM_sld (i + 4) hX (by omega) ((w32_of (by omega) (by omega)).trans (by omega)) dL_law_1693 ?_
  obtain ⟨c1694, hc1694, h⟩ := bind_some_eq h
  refine VM_callM (N := 73) (T := TX10) (As := [vI (xs (i + 1)).toInt, vI (xs (i + 2)).toInt, vI (xs (i + 3)).toInt, vI (xs (i + 4)).toInt]) (rest := []) (s1 := [vI c1694.1]) X hA hKI (con_m_push N gm (xs (i + 1)).toInt (xs (i + 2)).toInt (xs (i + 3)).toInt (xs (i + 4)).toInt c1694 hc1694) gwN_push_232 hdN_push ⟨Nat.le_of_ble_eq_true rfl, Nat.le_of_ble_eq_true rfl⟩ rfl rfl rfl (Nat.le_of_ble_eq_true rfl) dL_law_1694 rfl rfl ?_
  refine VM_istore X dL_law_1697 (by decide) (L' := [(6, vI c1694.1), (5, vI c1664.1), (4, vI (i : Int)), (0, .ref b0), (1, .ref (xb x + 0)), (2, .ref (xb x + 350)), (3, .ref (xb x + 393))]) rfl ?_
  refine VM_aload_n X dL_law_1699 5 rfl ?_
  obtain ⟨c1700, hc1700, h⟩ := bind_some_eq h
  refine VM_callM (N := 73) (T := TX10) (As := []) (rest := []) (s1 := [vI c1700]) X hA hKI (con_m_thrown c1694.2 c1700 hc1700) gwN_thrown_149 hdN_thrown ⟨Nat.le_of_ble_eq_true rfl, Nat.le_of_ble_eq_true rfl⟩ rfl rfl rfl (Nat.le_of_ble_eq_true rfl) dL_law_1700 rfl rfl ?_
  refine VM_iload X dL_law_1703 1 rfl ?_
  refine VM_icmp_eq (tgt := 1710) X dL_law_1705 (by decide) h (fun h => ?_) (fun h => by cases h)
  refine VM_iload X dL_law_1710 1 rfl ?_
  refine VM_if_ne (tgt := 1727) X dL_law_1712 (by decide) h (fun h => ?_) (fun h => ?_)
  · refine VM_goto (tgt := 2918) X dL_law_1727 (by decide) ?_
    have hr := Option.some.inj h
    subst hr
    exact VM_sub [2, 3, 4, 5, 6] rfl (k hKI)
  · refine VM_aload_n X dL_law_1715 6 rfl ?_
    refine VM_iconst X dL_law_1716 ?_
    refine VM_lald (o := 393) (n := 1) X hKI.2.2.2.1 (by decide) dL_law_1717 h (fun v1717 h => ?_)
    refine VM_iload X dL_law_1718 0 rfl ?_
    refine VM_i2l X dL_law_1720 ?_
    refine VM_lcmp X dL_law_1721 ?_
    refine VM_if_eq (tgt := 1727) X dL_law_1722 (by decide) h (fun h => ?_) (fun h => by cases h)
    refine VM_goto (tgt := 2918) X dL_law_1727 (by decide) ?_
    have hr := Option.some.inj h
    subst hr
    exact VM_sub [2, 3, 4, 5, 6] rfl (k hKI)
set_option maxHeartbeats 4000000 in
theorem case_26 {x : CT} {b0 Ls : Nat} {xs : Nat → Int32} (hX : XM_ x code 8 RX0 (some .boolean) b0 Ls xs) (N : Nat) (K : Nat → Nat) (z : Nat) (g gm : GS) (hKI : KI K z) (i : Nat) (hi : i + 7 ≤ Ls) (r : S3 × GS) (h : lc_26 N K z g gm (xs (i + 1)).toInt (xs (i + 2)).toInt (xs (i + 3)).toInt (xs (i + 4)).toInt (xs (i + 5)).toInt (xs (i + 6)).toInt = some r) (k : KI r.1.1 r.1.2.1 → VM x 8 r.1.1 r.1.2.1 r.1.2.2 r.2 2918 [(4, vI (i : Int)), (0, .ref b0), (1, .ref (xb x + 0)), (2, .ref (xb x + 350)), (3, .ref (xb x + 393))] []) : VM x 8 K z g gm 1730 [(4, vI (i : Int)), (0, .ref b0), (1, .ref (xb x + 0)), (2, .ref (xb x + 350)), (3, .ref (xb x + 393))] [] := by
  have X := hX.1
  have hA := hX.2.1
  have hLs := hX.2.2.2.2.2
  unfold lc_26 at h
  refine VM_aload_n X dL_law_1730 2 rfl ?_
  refine VM_aload_n X dL_law_1731 1 rfl ?_
  refine VM_iload X dL_law_1732 0 rfl ?_
  refine VM_iconst X dL_law_1734 ?_
  refine VM_iadd X dL_law_1735 ?_
  refine VM_sld (i + 1) hX (by omega) ((w32_of (by omega) (by omega)).trans (by omega)) dL_law_1736 ?_
  refine VM_aload_n X dL_law_1737 1 rfl ?_
  refine VM_iload X dL_law_1738 0 rfl ?_
  refine VM_iconst X dL_law_1740 ?_
  refine VM_iadd X dL_law_1741 ?_
  refine VM_sld (i + 2) hX (by omega) ((w32_of (by omega) (by omega)).trans (by omega)) dL_law_1742 ?_
  refine VM_aload_n X dL_law_1743 1 rfl ?_
  refine VM_iload X dL_law_1744 0 rfl ?_
  refine VM_iconst X dL_law_1746 ?_
  refine VM_iadd X dL_law_1747 ?_
  refine VM_sld (i + 3) hX (by omega) ((w32_of (by omega) (by omega)).trans (by omega)) dL_law_1748 ?_
  refine VM_aload_n X dL_law_1749 1 rfl ?_
  refine VM_iload X dL_law_1750 0 rfl ?_
  refine VM_iconst X dL_law_1752 ?_
  refine VM_iadd X dL_law_1753 ?_
  refine VM_sld (i + 4) hX (by omega) ((w32_of (by omega) (by omega)).trans (by omega)) dL_law_1754 ?_
  refine VM_aload_n X dL_law_1755 4 rfl ?_
  obtain ⟨c1756, hc1756, h⟩ := bind_some_eq h
  refine VM_callS (As := [.ref (xb x + 0), vI (xs (i + 1)).toInt, vI (xs (i + 2)).toInt, vI (xs (i + 3)).toInt, vI (xs (i + 4)).toInt, .ref (xb x + 393)]) (rest := []) (s1 := [vI c1756.1]) X hA hKI (con_xLaw0_tries N 393 K z hKI.ks hKI.2.2.2.1 g (xs (i + 1)).toInt (xs (i + 2)).toInt (xs (i + 3)).toInt (xs (i + 4)).toInt c1756 hc1756) gwL_tries_233 hdL_tries ⟨Nat.le_of_ble_eq_true rfl, Nat.le_of_ble_eq_true rfl⟩ rfl rfl (Nat.le_of_ble_eq_true rfl) dL_law_1756 rfl rfl (fun hKSc => ?_)
  have hKI := hKI.on hKSc
  refine VM_istore X dL_law_1759 (by decide) (L' := [(5, vI c1756.1), (4, vI (i : Int)), (0, .ref b0), (1, .ref (xb x + 0)), (2, .ref (xb x + 350)), (3, .ref (xb x + 393))]) rfl ?_
  refine VM_aload_n X dL_law_1761 4 rfl ?_
  refine VM_aload_n X dL_law_1762 2 rfl ?_
  refine VM_iload X dL_law_1763 1 rfl ?_
  refine VM_iconst X dL_law_1765 ?_
  refine VM_iadd X dL_law_1766 ?_
  refine VM_sld (i + 1) hX (by omega) ((w32_of (by omega) (by omega)).trans (by omega)) dL_law_1767 ?_
  refine VM_aload_n X dL_law_1768 2 rfl ?_
  refine VM_iload X dL_law_1769 1 rfl ?_
  refine VM_iconst X dL_law_1771 ?_
  refine VM_iadd X dL_law_1772 ?_
  refine VM_sld (i + 2) hX (by omega) ((w32_of (by omega) (by omega)).trans (by omega)) dL_law_1773 ?_
  refine VM_aload_n X dL_law_1774 2 rfl ?_
  refine VM_iload X dL_law_1775 1 rfl ?_
  refine VM_iconst X dL_law_1777 ?_
  refine VM_iadd X dL_law_1778 ?_
  refine VM_sld (i + 3) hX (by omega) ((w32_of (by omega) (by omega)).trans (by omega)) dL_law_1779 ?_
  refine VM_aload_n X dL_law_1780 2 rfl ?_
  refine VM_iload X dL_law_1781 1 rfl ?_
  refine VM_iconst X dL_law_1783 ?_
  refine VM_iadd X dL_law_1784 ?_
  refine VM_sld (i + 4) hX (by omega) ((w32_of (by omega) (by omega)).trans (by omega)) dL_law_1785 ?_
  obtain ⟨c1786, hc1786, h⟩ := bind_some_eq h
  refine VM_callM (N := 73) (T := TX10) (As := [vI (xs (i + 1)).toInt, vI (xs (i + 2)).toInt, vI (xs (i + 3)).toInt, vI (xs (i + 4)).toInt]) (rest := []) (s1 := [vL c1786.1]) X hA hKI (con_m_tries N gm (xs (i + 1)).toInt (xs (i + 2)).toInt (xs (i + 3)).toInt (xs (i + 4)).toInt c1786 hc1786) gwN_tries_235 hdN_tries ⟨Nat.le_of_ble_eq_true rfl, Nat.le_of_ble_eq_true rfl⟩ rfl rfl rfl (Nat.le_of_ble_eq_true rfl) dL_law_1786 rfl rfl ?_
  refine VM_lstore X dL_law_1789 (by decide) (L' := [(6, vL c1786.1), (5, vI c1756.1), (4, vI (i : Int)), (0, .ref b0), (1, .ref (xb x + 0)), (2, .ref (xb x + 350)), (3, .ref (xb x + 393))]) rfl ?_
  refine VM_aload_n X dL_law_1791 5 rfl ?_
  obtain ⟨c1792, hc1792, h⟩ := bind_some_eq h
  refine VM_callM (N := 73) (T := TX10) (As := []) (rest := []) (s1 := [vI c1792]) X hA hKI (con_m_thrown c1786.2 c1792 hc1792) gwN_thrown_149 hdN_thrown ⟨Nat.le_of_ble_eq_true rfl, Nat.le_of_ble_eq_true rfl⟩ rfl rfl rfl (Nat.le_of_ble_eq_true rfl) dL_law_1792 rfl rfl ?_
  refine VM_iload X dL_law_1795 1 rfl ?_
  refine VM_icmp_eq (tgt := 1802) X dL_law_1797 (by decide) h (fun h => ?_) (fun h => by cases h)
  refine VM_iload X dL_law_1802 1 rfl ?_
  refine VM_if_ne (tgt := 1818) X dL_law_1804 (by decide) h (fun h => ?_) (fun h => ?_)
  · refine VM_goto (tgt := 2918) X dL_law_1818 (by decide) ?_
    have hr := Option.some.inj h
    subst hr
    exact VM_sub [2, 3, 4, 5, 6] rfl (k hKI)
  · refine VM_aload_n X dL_law_1807 6 rfl ?_
    refine VM_iconst X dL_law_1808 ?_
    refine VM_lald (o := 393) (n := 1) X hKI.2.2.2.1 (by decide) dL_law_1809 h (fun v1809 h => ?_)
    refine VM_lload X dL_law_1810 0 rfl ?_
    refine VM_lcmp X dL_law_1812 ?_
    refine VM_if_eq (tgt := 1818) X dL_law_1813 (by decide) h (fun h => ?_) (fun h => by cases h)
    refine VM_goto (tgt := 2918) X dL_law_1818 (by decide) ?_
    have hr := Option.some.inj h
    subst hr
    exact VM_sub [2, 3, 4, 5, 6] rfl (k hKI)
set_option maxHeartbeats 4000000 in
theorem case_27 {x : CT} {b0 Ls : Nat} {xs : Nat → Int32} (hX : XM_ x code 8 RX0 (some .boolean) b0 Ls xs) (N : Nat) (K : Nat → Nat) (z : Nat) (g gm : GS) (hKI : KI K z) (i : Nat) (hi : i + 7 ≤ Ls) (r : S3 × GS) (h : lc_27 N K z g gm (xs (i + 1)).toInt (xs (i + 2)).toInt (xs (i + 3)).toInt (xs (i + 4)).toInt (xs (i + 5)).toInt (xs (i + 6)).toInt = some r) (k : KI r.1.1 r.1.2.1 → VM x 8 r.1.1 r.1.2.1 r.1.2.2 r.2 2918 [(4, vI (i : Int)), (0, .ref b0), (1, .ref (xb x + 0)), (2, .ref (xb x + 350)), (3, .ref (xb x + 393))] []) : VM x 8 K z g gm 1821 [(4, vI (i : Int)), (0, .ref b0), (1, .ref (xb x + 0)), (2, .ref (xb x + 350)), (3, .ref (xb x + 393))] [] := by
  have X := hX.1
  have hA := hX.2.1
  have hLs := hX.2.2.2.2.2
  unfold lc_27 at h
  refine VM_aload_n X dL_law_1821 2 rfl ?_
  refine VM_aload_n X dL_law_1822 1 rfl ?_
  refine VM_iload X dL_law_1823 0 rfl ?_
  refine VM_iconst X dL_law_1825 ?_
  refine VM_iadd X dL_law_1826 ?_
  refine VM_sld (i + 1) hX (by omega) ((w32_of (by omega) (by omega)).trans (by omega)) dL_law_1827 ?_
  refine VM_aload_n X dL_law_1828 1 rfl ?_
  refine VM_iload X dL_law_1829 0 rfl ?_
  refine VM_iconst X dL_law_1831 ?_
  refine VM_iadd X dL_law_1832 ?_
  refine VM_sld (i + 2) hX (by omega) ((w32_of (by omega) (by omega)).trans (by omega)) dL_law_1833 ?_
  refine VM_aload_n X dL_law_1834 4 rfl ?_
  obtain ⟨c1835, hc1835, h⟩ := bind_some_eq h
  refine VM_callS (As := [.ref (xb x + 0), vI (xs (i + 1)).toInt, vI (xs (i + 2)).toInt, .ref (xb x + 393)]) (rest := []) (s1 := [vI c1835.1]) X hA hKI (con_xLaw0_half N 393 K z hKI.ks hKI.2.2.2.1 g (xs (i + 1)).toInt (xs (i + 2)).toInt c1835 hc1835) gwL_half_236 hdL_half ⟨Nat.le_of_ble_eq_true rfl, Nat.le_of_ble_eq_true rfl⟩ rfl rfl (Nat.le_of_ble_eq_true rfl) dL_law_1835 rfl rfl (fun hKSc => ?_)
  have hKI := hKI.on hKSc
  refine VM_istore X dL_law_1838 (by decide) (L' := [(5, vI c1835.1), (4, vI (i : Int)), (0, .ref b0), (1, .ref (xb x + 0)), (2, .ref (xb x + 350)), (3, .ref (xb x + 393))]) rfl ?_
  refine VM_aload_n X dL_law_1840 4 rfl ?_
  refine VM_aload_n X dL_law_1841 2 rfl ?_
  refine VM_iload X dL_law_1842 1 rfl ?_
  refine VM_iconst X dL_law_1844 ?_
  refine VM_iadd X dL_law_1845 ?_
  refine VM_sld (i + 1) hX (by omega) ((w32_of (by omega) (by omega)).trans (by omega)) dL_law_1846 ?_
  refine VM_aload_n X dL_law_1847 2 rfl ?_
  refine VM_iload X dL_law_1848 1 rfl ?_
  refine VM_iconst X dL_law_1850 ?_
  refine VM_iadd X dL_law_1851 ?_
  refine VM_sld (i + 2) hX (by omega) ((w32_of (by omega) (by omega)).trans (by omega)) dL_law_1852 ?_
  obtain ⟨c1853, hc1853, h⟩ := bind_some_eq h
  refine VM_callM (N := 73) (T := TX10) (As := [vI (xs (i + 1)).toInt, vI (xs (i + 2)).toInt]) (rest := []) (s1 := [vI c1853.1]) X hA hKI (con_m_half N gm (xs (i + 1)).toInt (xs (i + 2)).toInt c1853 hc1853) gwN_half_238 hdN_half ⟨Nat.le_of_ble_eq_true rfl, Nat.le_of_ble_eq_true rfl⟩ rfl rfl rfl (Nat.le_of_ble_eq_true rfl) dL_law_1853 rfl rfl ?_
  refine VM_istore X dL_law_1856 (by decide) (L' := [(6, vI c1853.1), (5, vI c1835.1), (4, vI (i : Int)), (0, .ref b0), (1, .ref (xb x + 0)), (2, .ref (xb x + 350)), (3, .ref (xb x + 393))]) rfl ?_
  refine VM_aload_n X dL_law_1858 5 rfl ?_
  obtain ⟨c1859, hc1859, h⟩ := bind_some_eq h
  refine VM_callM (N := 73) (T := TX10) (As := []) (rest := []) (s1 := [vI c1859]) X hA hKI (con_m_thrown c1853.2 c1859 hc1859) gwN_thrown_149 hdN_thrown ⟨Nat.le_of_ble_eq_true rfl, Nat.le_of_ble_eq_true rfl⟩ rfl rfl rfl (Nat.le_of_ble_eq_true rfl) dL_law_1859 rfl rfl ?_
  refine VM_iload X dL_law_1862 1 rfl ?_
  refine VM_icmp_eq (tgt := 1869) X dL_law_1864 (by decide) h (fun h => ?_) (fun h => by cases h)
  refine VM_iload X dL_law_1869 1 rfl ?_
  refine VM_if_ne (tgt := 1886) X dL_law_1871 (by decide) h (fun h => ?_) (fun h => ?_)
  · refine VM_goto (tgt := 2918) X dL_law_1886 (by decide) ?_
    have hr := Option.some.inj h
    subst hr
    exact VM_sub [2, 3, 4, 5, 6] rfl (k hKI)
  · refine VM_aload_n X dL_law_1874 6 rfl ?_
    refine VM_iconst X dL_law_1875 ?_
    refine VM_lald (o := 393) (n := 1) X hKI.2.2.2.1 (by decide) dL_law_1876 h (fun v1876 h => ?_)
    refine VM_iload X dL_law_1877 0 rfl ?_
    refine VM_i2l X dL_law_1879 ?_
    refine VM_lcmp X dL_law_1880 ?_
    refine VM_if_eq (tgt := 1886) X dL_law_1881 (by decide) h (fun h => ?_) (fun h => by cases h)
    refine VM_goto (tgt := 2918) X dL_law_1886 (by decide) ?_
    have hr := Option.some.inj h
    subst hr
    exact VM_sub [2, 3, 4, 5, 6] rfl (k hKI)
set_option maxHeartbeats 4000000 in
theorem case_28 {x : CT} {b0 Ls : Nat} {xs : Nat → Int32} (hX : XM_ x code 8 RX0 (some .boolean) b0 Ls xs) (N : Nat) (K : Nat → Nat) (z : Nat) (g gm : GS) (hKI : KI K z) (i : Nat) (hi : i + 7 ≤ Ls) (r : S3 × GS) (h : lc_28 N K z g gm (xs (i + 1)).toInt (xs (i + 2)).toInt (xs (i + 3)).toInt (xs (i + 4)).toInt (xs (i + 5)).toInt (xs (i + 6)).toInt = some r) (k : KI r.1.1 r.1.2.1 → VM x 8 r.1.1 r.1.2.1 r.1.2.2 r.2 2918 [(4, vI (i : Int)), (0, .ref b0), (1, .ref (xb x + 0)), (2, .ref (xb x + 350)), (3, .ref (xb x + 393))] []) : VM x 8 K z g gm 1889 [(4, vI (i : Int)), (0, .ref b0), (1, .ref (xb x + 0)), (2, .ref (xb x + 350)), (3, .ref (xb x + 393))] [] := by
  have X := hX.1
  have hA := hX.2.1
  have hLs := hX.2.2.2.2.2
  unfold lc_28 at h
  refine VM_aload_n X dL_law_1889 2 rfl ?_
  refine VM_aload_n X dL_law_1890 1 rfl ?_
  refine VM_iload X dL_law_1891 0 rfl ?_
  refine VM_iconst X dL_law_1893 ?_
  refine VM_iadd X dL_law_1894 ?_
  refine VM_sld (i + 1) hX (by omega) ((w32_of (by omega) (by omega)).trans (by omega)) dL_law_1895 ?_
  refine VM_aload_n X dL_law_1896 4 rfl ?_
  obtain ⟨c1897, hc1897, h⟩ := bind_some_eq h
  refine VM_callS (As := [.ref (xb x + 0), vI (xs (i + 1)).toInt, .ref (xb x + 393)]) (rest := []) (s1 := [vI c1897.1]) X hA hKI (con_xLaw0_easiest N 393 K z hKI.ks hKI.2.2.2.1 g (xs (i + 1)).toInt c1897 hc1897) gwL_easiest_239 hdL_easiest ⟨Nat.le_of_ble_eq_true rfl, Nat.le_of_ble_eq_true rfl⟩ rfl rfl (Nat.le_of_ble_eq_true rfl) dL_law_1897 rfl rfl (fun hKSc => ?_)
  have hKI := hKI.on hKSc
  refine VM_istore X dL_law_1900 (by decide) (L' := [(5, vI c1897.1), (4, vI (i : Int)), (0, .ref b0), (1, .ref (xb x + 0)), (2, .ref (xb x + 350)), (3, .ref (xb x + 393))]) rfl ?_
  refine VM_aload_n X dL_law_1902 4 rfl ?_
  refine VM_aload_n X dL_law_1903 2 rfl ?_
  refine VM_iload X dL_law_1904 1 rfl ?_
  refine VM_iconst X dL_law_1906 ?_
  refine VM_iadd X dL_law_1907 ?_
  refine VM_sld (i + 1) hX (by omega) ((w32_of (by omega) (by omega)).trans (by omega)) dL_law_1908 ?_
  obtain ⟨c1909, hc1909, h⟩ := bind_some_eq h
  refine VM_callM (N := 73) (T := TX10) (As := [vI (xs (i + 1)).toInt]) (rest := []) (s1 := [vI c1909.1]) X hA hKI (con_m_easiest N gm (xs (i + 1)).toInt c1909 hc1909) gwN_easiest_241 hdN_easiest ⟨Nat.le_of_ble_eq_true rfl, Nat.le_of_ble_eq_true rfl⟩ rfl rfl rfl (Nat.le_of_ble_eq_true rfl) dL_law_1909 rfl rfl ?_
  refine VM_istore X dL_law_1912 (by decide) (L' := [(6, vI c1909.1), (5, vI c1897.1), (4, vI (i : Int)), (0, .ref b0), (1, .ref (xb x + 0)), (2, .ref (xb x + 350)), (3, .ref (xb x + 393))]) rfl ?_
  refine VM_aload_n X dL_law_1914 5 rfl ?_
  obtain ⟨c1915, hc1915, h⟩ := bind_some_eq h
  refine VM_callM (N := 73) (T := TX10) (As := []) (rest := []) (s1 := [vI c1915]) X hA hKI (con_m_thrown c1909.2 c1915 hc1915) gwN_thrown_149 hdN_thrown ⟨Nat.le_of_ble_eq_true rfl, Nat.le_of_ble_eq_true rfl⟩ rfl rfl rfl (Nat.le_of_ble_eq_true rfl) dL_law_1915 rfl rfl ?_
  refine VM_iload X dL_law_1918 1 rfl ?_
  refine VM_icmp_eq (tgt := 1925) X dL_law_1920 (by decide) h (fun h => ?_) (fun h => by cases h)
  refine VM_iload X dL_law_1925 1 rfl ?_
  refine VM_if_ne (tgt := 1942) X dL_law_1927 (by decide) h (fun h => ?_) (fun h => ?_)
  · refine VM_goto (tgt := 2918) X dL_law_1942 (by decide) ?_
    have hr := Option.some.inj h
    subst hr
    exact VM_sub [2, 3, 4, 5, 6] rfl (k hKI)
  · refine VM_aload_n X dL_law_1930 6 rfl ?_
    refine VM_iconst X dL_law_1931 ?_
    refine VM_lald (o := 393) (n := 1) X hKI.2.2.2.1 (by decide) dL_law_1932 h (fun v1932 h => ?_)
    refine VM_iload X dL_law_1933 0 rfl ?_
    refine VM_i2l X dL_law_1935 ?_
    refine VM_lcmp X dL_law_1936 ?_
    refine VM_if_eq (tgt := 1942) X dL_law_1937 (by decide) h (fun h => ?_) (fun h => by cases h)
    refine VM_goto (tgt := 2918) X dL_law_1942 (by decide) ?_
    have hr := Option.some.inj h
    subst hr
    exact VM_sub [2, 3, 4, 5, 6] rfl (k hKI)
set_option maxHeartbeats 4000000 in
theorem case_29 {x : CT} {b0 Ls : Nat} {xs : Nat → Int32} (hX : XM_ x code 8 RX0 (some .boolean) b0 Ls xs) (N : Nat) (K : Nat → Nat) (z : Nat) (g gm : GS) (hKI : KI K z) (i : Nat) (hi : i + 7 ≤ Ls) (r : S3 × GS) (h : lc_29 N K z g gm (xs (i + 1)).toInt (xs (i + 2)).toInt (xs (i + 3)).toInt (xs (i + 4)).toInt (xs (i + 5)).toInt (xs (i + 6)).toInt = some r) (k : KI r.1.1 r.1.2.1 → VM x 8 r.1.1 r.1.2.1 r.1.2.2 r.2 2918 [(4, vI (i : Int)), (0, .ref b0), (1, .ref (xb x + 0)), (2, .ref (xb x + 350)), (3, .ref (xb x + 393))] []) : VM x 8 K z g gm 1945 [(4, vI (i : Int)), (0, .ref b0), (1, .ref (xb x + 0)), (2, .ref (xb x + 350)), (3, .ref (xb x + 393))] [] := by
  have X := hX.1
  have hA := hX.2.1
  have hLs := hX.2.2.2.2.2
  unfold lc_29 at h
  refine VM_aload_n X dL_law_1945 2 rfl ?_
  refine VM_aload_n X dL_law_1946 1 rfl ?_
  refine VM_iload X dL_law_1947 0 rfl ?_
  refine VM_iconst X dL_law_1949 ?_
  refine VM_iadd X dL_law_1950 ?_
  refine VM_sld (i + 1) hX (by omega) ((w32_of (by omega) (by omega)).trans (by omega)) dL_law_1951 ?_
  refine VM_aload_n X dL_law_1952 1 rfl ?_
  refine VM_iload X dL_law_1953 0 rfl ?_
  refine VM_iconst X dL_law_1955 ?_
  refine VM_iadd X dL_law_1956 ?_
  refine VM_sld (i + 2) hX (by omega) ((w32_of (by omega) (by omega)).trans (by omega)) dL_law_1957 ?_
  refine VM_aload_n X dL_law_1958 1 rfl ?_
  refine VM_iload X dL_law_1959 0 rfl ?_
  refine VM_iconst X dL_law_1961 ?_
  refine VM_iadd X dL_law_1962 ?_
  refine VM_sld (i + 3) hX (by omega) ((w32_of (by omega) (by omega)).trans (by omega)) dL_law_1963 ?_
  refine VM_aload_n X dL_law_1964 1 rfl ?_
  refine VM_iload X dL_law_1965 0 rfl ?_
  refine VM_iconst X dL_law_1967 ?_
  refine VM_iadd X dL_law_1968 ?_
  refine VM_sld (i + 4) hX (by omega) ((w32_of (by omega) (by omega)).trans (by omega)) dL_law_1969 ?_
  refine VM_aload_n X dL_law_1970 4 rfl ?_
  obtain ⟨c1971, hc1971, h⟩ := bind_some_eq h
  refine VM_callS (As := [.ref (xb x + 0), vI (xs (i + 1)).toInt, vI (xs (i + 2)).toInt, vI (xs (i + 3)).toInt, vI (xs (i + 4)).toInt, .ref (xb x + 393)]) (rest := []) (s1 := [vI c1971.1]) X hA hKI (con_xLaw0_waits N 393 K z hKI.ks hKI.2.2.2.1 g (xs (i + 1)).toInt (xs (i + 2)).toInt (xs (i + 3)).toInt (xs (i + 4)).toInt c1971 hc1971) gwL_waits_242 hdL_waits ⟨Nat.le_of_ble_eq_true rfl, Nat.le_of_ble_eq_true rfl⟩ rfl rfl (Nat.le_of_ble_eq_true rfl) dL_law_1971 rfl rfl (fun hKSc => ?_)
  have hKI := hKI.on hKSc
  refine VM_istore X dL_law_1974 (by decide) (L' := [(5, vI c1971.1), (4, vI (i : Int)), (0, .ref b0), (1, .ref (xb x + 0)), (2, .ref (xb x + 350)), (3, .ref (xb x + 393))]) rfl ?_
  refine VM_aload_n X dL_law_1976 4 rfl ?_
  refine VM_aload_n X dL_law_1977 2 rfl ?_
  refine VM_iload X dL_law_1978 1 rfl ?_
  refine VM_iconst X dL_law_1980 ?_
  refine VM_iadd X dL_law_1981 ?_
  refine VM_sld (i + 1) hX (by omega) ((w32_of (by omega) (by omega)).trans (by omega)) dL_law_1982 ?_
  refine VM_aload_n X dL_law_1983 2 rfl ?_
  refine VM_iload X dL_law_1984 1 rfl ?_
  refine VM_iconst X dL_law_1986 ?_
  refine VM_iadd X dL_law_1987 ?_
  refine VM_sld (i + 2) hX (by omega) ((w32_of (by omega) (by omega)).trans (by omega)) dL_law_1988 ?_
  refine VM_aload_n X dL_law_1989 2 rfl ?_
  refine VM_iload X dL_law_1990 1 rfl ?_
  refine VM_iconst X dL_law_1992 ?_
  refine VM_iadd X dL_law_1993 ?_
  refine VM_sld (i + 3) hX (by omega) ((w32_of (by omega) (by omega)).trans (by omega)) dL_law_1994 ?_
  refine VM_aload_n X dL_law_1995 2 rfl ?_
  refine VM_iload X dL_law_1996 1 rfl ?_
  refine VM_iconst X dL_law_1998 ?_
  refine VM_iadd X dL_law_1999 ?_
  refine VM_sld (i + 4) hX (by omega) ((w32_of (by omega) (by omega)).trans (by omega)) dL_law_2000 ?_
  obtain ⟨c2001, hc2001, h⟩ := bind_some_eq h
  refine VM_callM (N := 73) (T := TX10) (As := [vI (xs (i + 1)).toInt, vI (xs (i + 2)).toInt, vI (xs (i + 3)).toInt, vI (xs (i + 4)).toInt]) (rest := []) (s1 := [vL c2001.1]) X hA hKI (con_m_waits N gm (xs (i + 1)).toInt (xs (i + 2)).toInt (xs (i + 3)).toInt (xs (i + 4)).toInt c2001 hc2001) gwN_waits_244 hdN_waits ⟨Nat.le_of_ble_eq_true rfl, Nat.le_of_ble_eq_true rfl⟩ rfl rfl rfl (Nat.le_of_ble_eq_true rfl) dL_law_2001 rfl rfl ?_
  refine VM_lstore X dL_law_2004 (by decide) (L' := [(6, vL c2001.1), (5, vI c1971.1), (4, vI (i : Int)), (0, .ref b0), (1, .ref (xb x + 0)), (2, .ref (xb x + 350)), (3, .ref (xb x + 393))]) rfl ?_
  refine VM_aload_n X dL_law_2006 5 rfl ?_
  obtain ⟨c2007, hc2007, h⟩ := bind_some_eq h
  refine VM_callM (N := 73) (T := TX10) (As := []) (rest := []) (s1 := [vI c2007]) X hA hKI (con_m_thrown c2001.2 c2007 hc2007) gwN_thrown_149 hdN_thrown ⟨Nat.le_of_ble_eq_true rfl, Nat.le_of_ble_eq_true rfl⟩ rfl rfl rfl (Nat.le_of_ble_eq_true rfl) dL_law_2007 rfl rfl ?_
  refine VM_iload X dL_law_2010 1 rfl ?_
  refine VM_icmp_eq (tgt := 2017) X dL_law_2012 (by decide) h (fun h => ?_) (fun h => by cases h)
  refine VM_iload X dL_law_2017 1 rfl ?_
  refine VM_if_ne (tgt := 2033) X dL_law_2019 (by decide) h (fun h => ?_) (fun h => ?_)
  · refine VM_goto (tgt := 2918) X dL_law_2033 (by decide) ?_
    have hr := Option.some.inj h
    subst hr
    exact VM_sub [2, 3, 4, 5, 6] rfl (k hKI)
  · refine VM_aload_n X dL_law_2022 6 rfl ?_
    refine VM_iconst X dL_law_2023 ?_
    refine VM_lald (o := 393) (n := 1) X hKI.2.2.2.1 (by decide) dL_law_2024 h (fun v2024 h => ?_)
    refine VM_lload X dL_law_2025 0 rfl ?_
    refine VM_lcmp X dL_law_2027 ?_
    refine VM_if_eq (tgt := 2033) X dL_law_2028 (by decide) h (fun h => ?_) (fun h => by cases h)
    refine VM_goto (tgt := 2918) X dL_law_2033 (by decide) ?_
    have hr := Option.some.inj h
    subst hr
    exact VM_sub [2, 3, 4, 5, 6] rfl (k hKI)
set_option maxHeartbeats 4000000 in
theorem case_30 {x : CT} {b0 Ls : Nat} {xs : Nat → Int32} (hX : XM_ x code 8 RX0 (some .boolean) b0 Ls xs) (N : Nat) (K : Nat → Nat) (z : Nat) (g gm : GS) (hKI : KI K z) (i : Nat) (hi : i + 7 ≤ Ls) (r : S3 × GS) (h : lc_30 N K z g gm (xs (i + 1)).toInt (xs (i + 2)).toInt (xs (i + 3)).toInt (xs (i + 4)).toInt (xs (i + 5)).toInt (xs (i + 6)).toInt = some r) (k : KI r.1.1 r.1.2.1 → VM x 8 r.1.1 r.1.2.1 r.1.2.2 r.2 2918 [(4, vI (i : Int)), (0, .ref b0), (1, .ref (xb x + 0)), (2, .ref (xb x + 350)), (3, .ref (xb x + 393))] []) : VM x 8 K z g gm 2036 [(4, vI (i : Int)), (0, .ref b0), (1, .ref (xb x + 0)), (2, .ref (xb x + 350)), (3, .ref (xb x + 393))] [] := by
  have X := hX.1
  have hA := hX.2.1
  have hLs := hX.2.2.2.2.2
  unfold lc_30 at h
  refine VM_aload_n X dL_law_2036 2 rfl ?_
  refine VM_aload_n X dL_law_2037 1 rfl ?_
  refine VM_iload X dL_law_2038 0 rfl ?_
  refine VM_iconst X dL_law_2040 ?_
  refine VM_iadd X dL_law_2041 ?_
  refine VM_sld (i + 1) hX (by omega) ((w32_of (by omega) (by omega)).trans (by omega)) dL_law_2042 ?_
  refine VM_aload_n X dL_law_2043 1 rfl ?_
  refine VM_iload X dL_law_2044 0 rfl ?_
  refine VM_iconst X dL_law_2046 ?_
  refine VM_iadd X dL_law_2047 ?_
  refine VM_sld (i + 2) hX (by omega) ((w32_of (by omega) (by omega)).trans (by omega)) dL_law_2048 ?_
  refine VM_aload_n X dL_law_2049 4 rfl ?_
  obtain ⟨c2050, hc2050, h⟩ := bind_some_eq h
  refine VM_callS (As := [.ref (xb x + 0), vI (xs (i + 1)).toInt, vI (xs (i + 2)).toInt, .ref (xb x + 393)]) (rest := []) (s1 := [vI c2050.1]) X hA hKI (con_xLaw0_await N 393 K z hKI.ks hKI.2.2.2.1 g (xs (i + 1)).toInt (xs (i + 2)).toInt c2050 hc2050) gwL_await_245 hdL_await ⟨Nat.le_of_ble_eq_true rfl, Nat.le_of_ble_eq_true rfl⟩ rfl rfl (Nat.le_of_ble_eq_true rfl) dL_law_2050 rfl rfl (fun hKSc => ?_)
  have hKI := hKI.on hKSc
  refine VM_istore X dL_law_2053 (by decide) (L' := [(5, vI c2050.1), (4, vI (i : Int)), (0, .ref b0), (1, .ref (xb x + 0)), (2, .ref (xb x + 350)), (3, .ref (xb x + 393))]) rfl ?_
  refine VM_aload_n X dL_law_2055 4 rfl ?_
  refine VM_aload_n X dL_law_2056 2 rfl ?_
  refine VM_iload X dL_law_2057 1 rfl ?_
  refine VM_iconst X dL_law_2059 ?_
  refine VM_iadd X dL_law_2060 ?_
  refine VM_sld (i + 1) hX (by omega) ((w32_of (by omega) (by omega)).trans (by omega)) dL_law_2061 ?_
  refine VM_aload_n X dL_law_2062 2 rfl ?_
  refine VM_iload X dL_law_2063 1 rfl ?_
  refine VM_iconst X dL_law_2065 ?_
  refine VM_iadd X dL_law_2066 ?_
  refine VM_sld (i + 2) hX (by omega) ((w32_of (by omega) (by omega)).trans (by omega)) dL_law_2067 ?_
  obtain ⟨c2068, hc2068, h⟩ := bind_some_eq h
  refine VM_callM (N := 73) (T := TX10) (As := [vI (xs (i + 1)).toInt, vI (xs (i + 2)).toInt]) (rest := []) (s1 := [vI c2068.1]) X hA hKI (con_m_await N gm (xs (i + 1)).toInt (xs (i + 2)).toInt c2068 hc2068) gwN_await_247 hdN_await ⟨Nat.le_of_ble_eq_true rfl, Nat.le_of_ble_eq_true rfl⟩ rfl rfl rfl (Nat.le_of_ble_eq_true rfl) dL_law_2068 rfl rfl ?_
  refine VM_istore X dL_law_2071 (by decide) (L' := [(6, vI c2068.1), (5, vI c2050.1), (4, vI (i : Int)), (0, .ref b0), (1, .ref (xb x + 0)), (2, .ref (xb x + 350)), (3, .ref (xb x + 393))]) rfl ?_
  refine VM_aload_n X dL_law_2073 5 rfl ?_
  obtain ⟨c2074, hc2074, h⟩ := bind_some_eq h
  refine VM_callM (N := 73) (T := TX10) (As := []) (rest := []) (s1 := [vI c2074]) X hA hKI (con_m_thrown c2068.2 c2074 hc2074) gwN_thrown_149 hdN_thrown ⟨Nat.le_of_ble_eq_true rfl, Nat.le_of_ble_eq_true rfl⟩ rfl rfl rfl (Nat.le_of_ble_eq_true rfl) dL_law_2074 rfl rfl ?_
  refine VM_iload X dL_law_2077 1 rfl ?_
  refine VM_icmp_eq (tgt := 2084) X dL_law_2079 (by decide) h (fun h => ?_) (fun h => by cases h)
  refine VM_iload X dL_law_2084 1 rfl ?_
  refine VM_if_ne (tgt := 2101) X dL_law_2086 (by decide) h (fun h => ?_) (fun h => ?_)
  · refine VM_goto (tgt := 2918) X dL_law_2101 (by decide) ?_
    have hr := Option.some.inj h
    subst hr
    exact VM_sub [2, 3, 4, 5, 6] rfl (k hKI)
  · refine VM_aload_n X dL_law_2089 6 rfl ?_
    refine VM_iconst X dL_law_2090 ?_
    refine VM_lald (o := 393) (n := 1) X hKI.2.2.2.1 (by decide) dL_law_2091 h (fun v2091 h => ?_)
    refine VM_iload X dL_law_2092 0 rfl ?_
    refine VM_i2l X dL_law_2094 ?_
    refine VM_lcmp X dL_law_2095 ?_
    refine VM_if_eq (tgt := 2101) X dL_law_2096 (by decide) h (fun h => ?_) (fun h => by cases h)
    refine VM_goto (tgt := 2918) X dL_law_2101 (by decide) ?_
    have hr := Option.some.inj h
    subst hr
    exact VM_sub [2, 3, 4, 5, 6] rfl (k hKI)
set_option maxHeartbeats 4000000 in
theorem case_31 {x : CT} {b0 Ls : Nat} {xs : Nat → Int32} (hX : XM_ x code 8 RX0 (some .boolean) b0 Ls xs) (N : Nat) (K : Nat → Nat) (z : Nat) (g gm : GS) (hKI : KI K z) (i : Nat) (hi : i + 7 ≤ Ls) (r : S3 × GS) (h : lc_31 N K z g gm (xs (i + 1)).toInt (xs (i + 2)).toInt (xs (i + 3)).toInt (xs (i + 4)).toInt (xs (i + 5)).toInt (xs (i + 6)).toInt = some r) (k : KI r.1.1 r.1.2.1 → VM x 8 r.1.1 r.1.2.1 r.1.2.2 r.2 2918 [(4, vI (i : Int)), (0, .ref b0), (1, .ref (xb x + 0)), (2, .ref (xb x + 350)), (3, .ref (xb x + 393))] []) : VM x 8 K z g gm 2104 [(4, vI (i : Int)), (0, .ref b0), (1, .ref (xb x + 0)), (2, .ref (xb x + 350)), (3, .ref (xb x + 393))] [] := by
  have X := hX.1
  have hA := hX.2.1
  have hLs := hX.2.2.2.2.2
  unfold lc_31 at h
  refine VM_aload_n X dL_law_2104 2 rfl ?_
  refine VM_aload_n X dL_law_2105 1 rfl ?_
  refine VM_iload X dL_law_2106 0 rfl ?_
  refine VM_iconst X dL_law_2108 ?_
  refine VM_iadd X dL_law_2109 ?_
  refine VM_sld (i + 1) hX (by omega) ((w32_of (by omega) (by omega)).trans (by omega)) dL_law_2110 ?_
  refine VM_aload_n X dL_law_2111 1 rfl ?_
  refine VM_iload X dL_law_2112 0 rfl ?_
  refine VM_iconst X dL_law_2114 ?_
  refine VM_iadd X dL_law_2115 ?_
  refine VM_sld (i + 2) hX (by omega) ((w32_of (by omega) (by omega)).trans (by omega)) dL_law_2116 ?_
  refine VM_aload_n X dL_law_2117 4 rfl ?_
  obtain ⟨c2118, hc2118, h⟩ := bind_some_eq h
  refine VM_callS (As := [.ref (xb x + 0), vI (xs (i + 1)).toInt, vI (xs (i + 2)).toInt, .ref (xb x + 393)]) (rest := []) (s1 := [vI c2118.1]) X hA hKI (con_xLaw0_cross N 393 K z hKI.ks hKI.2.2.2.1 g (xs (i + 1)).toInt (xs (i + 2)).toInt c2118 hc2118) gwL_cross_248 hdL_cross ⟨Nat.le_of_ble_eq_true rfl, Nat.le_of_ble_eq_true rfl⟩ rfl rfl (Nat.le_of_ble_eq_true rfl) dL_law_2118 rfl rfl (fun hKSc => ?_)
  have hKI := hKI.on hKSc
  refine VM_istore X dL_law_2121 (by decide) (L' := [(5, vI c2118.1), (4, vI (i : Int)), (0, .ref b0), (1, .ref (xb x + 0)), (2, .ref (xb x + 350)), (3, .ref (xb x + 393))]) rfl ?_
  refine VM_aload_n X dL_law_2123 4 rfl ?_
  refine VM_aload_n X dL_law_2124 2 rfl ?_
  refine VM_iload X dL_law_2125 1 rfl ?_
  refine VM_iconst X dL_law_2127 ?_
  refine VM_iadd X dL_law_2128 ?_
  refine VM_sld (i + 1) hX (by omega) ((w32_of (by omega) (by omega)).trans (by omega)) dL_law_2129 ?_
  refine VM_aload_n X dL_law_2130 2 rfl ?_
  refine VM_iload X dL_law_2131 1 rfl ?_
  refine VM_iconst X dL_law_2133 ?_
  refine VM_iadd X dL_law_2134 ?_
  refine VM_sld (i + 2) hX (by omega) ((w32_of (by omega) (by omega)).trans (by omega)) dL_law_2135 ?_
  obtain ⟨c2136, hc2136, h⟩ := bind_some_eq h
  refine VM_callM (N := 73) (T := TX10) (As := [vI (xs (i + 1)).toInt, vI (xs (i + 2)).toInt]) (rest := []) (s1 := [vI c2136.1]) X hA hKI (con_m_cross N gm (xs (i + 1)).toInt (xs (i + 2)).toInt c2136 hc2136) gwN_cross_250 hdN_cross ⟨Nat.le_of_ble_eq_true rfl, Nat.le_of_ble_eq_true rfl⟩ rfl rfl rfl (Nat.le_of_ble_eq_true rfl) dL_law_2136 rfl rfl ?_
  refine VM_istore X dL_law_2139 (by decide) (L' := [(6, vI c2136.1), (5, vI c2118.1), (4, vI (i : Int)), (0, .ref b0), (1, .ref (xb x + 0)), (2, .ref (xb x + 350)), (3, .ref (xb x + 393))]) rfl ?_
  refine VM_aload_n X dL_law_2141 5 rfl ?_
  obtain ⟨c2142, hc2142, h⟩ := bind_some_eq h
  refine VM_callM (N := 73) (T := TX10) (As := []) (rest := []) (s1 := [vI c2142]) X hA hKI (con_m_thrown c2136.2 c2142 hc2142) gwN_thrown_149 hdN_thrown ⟨Nat.le_of_ble_eq_true rfl, Nat.le_of_ble_eq_true rfl⟩ rfl rfl rfl (Nat.le_of_ble_eq_true rfl) dL_law_2142 rfl rfl ?_
  refine VM_iload X dL_law_2145 1 rfl ?_
  refine VM_icmp_eq (tgt := 2152) X dL_law_2147 (by decide) h (fun h => ?_) (fun h => by cases h)
  refine VM_iload X dL_law_2152 1 rfl ?_
  refine VM_if_ne (tgt := 2169) X dL_law_2154 (by decide) h (fun h => ?_) (fun h => ?_)
  · refine VM_goto (tgt := 2918) X dL_law_2169 (by decide) ?_
    have hr := Option.some.inj h
    subst hr
    exact VM_sub [2, 3, 4, 5, 6] rfl (k hKI)
  · refine VM_aload_n X dL_law_2157 6 rfl ?_
    refine VM_iconst X dL_law_2158 ?_
    refine VM_lald (o := 393) (n := 1) X hKI.2.2.2.1 (by decide) dL_law_2159 h (fun v2159 h => ?_)
    refine VM_iload X dL_law_2160 0 rfl ?_
    refine VM_i2l X dL_law_2162 ?_
    refine VM_lcmp X dL_law_2163 ?_
    refine VM_if_eq (tgt := 2169) X dL_law_2164 (by decide) h (fun h => ?_) (fun h => by cases h)
    refine VM_goto (tgt := 2918) X dL_law_2169 (by decide) ?_
    have hr := Option.some.inj h
    subst hr
    exact VM_sub [2, 3, 4, 5, 6] rfl (k hKI)
set_option maxHeartbeats 4000000 in
theorem case_32 {x : CT} {b0 Ls : Nat} {xs : Nat → Int32} (hX : XM_ x code 8 RX0 (some .boolean) b0 Ls xs) (N : Nat) (K : Nat → Nat) (z : Nat) (g gm : GS) (hKI : KI K z) (i : Nat) (hi : i + 7 ≤ Ls) (r : S3 × GS) (h : lc_32 N K z g gm (xs (i + 1)).toInt (xs (i + 2)).toInt (xs (i + 3)).toInt (xs (i + 4)).toInt (xs (i + 5)).toInt (xs (i + 6)).toInt = some r) (k : KI r.1.1 r.1.2.1 → VM x 8 r.1.1 r.1.2.1 r.1.2.2 r.2 2918 [(4, vI (i : Int)), (0, .ref b0), (1, .ref (xb x + 0)), (2, .ref (xb x + 350)), (3, .ref (xb x + 393))] []) : VM x 8 K z g gm 2172 [(4, vI (i : Int)), (0, .ref b0), (1, .ref (xb x + 0)), (2, .ref (xb x + 350)), (3, .ref (xb x + 393))] [] := by
  have X := hX.1
  have hA := hX.2.1
  have hLs := hX.2.2.2.2.2
  unfold lc_32 at h
  refine VM_aload_n X dL_law_2172 2 rfl ?_
  refine VM_aload_n X dL_law_2173 1 rfl ?_
  refine VM_iload X dL_law_2174 0 rfl ?_
  refine VM_iconst X dL_law_2176 ?_
  refine VM_iadd X dL_law_2177 ?_
  refine VM_sld (i + 1) hX (by omega) ((w32_of (by omega) (by omega)).trans (by omega)) dL_law_2178 ?_
  refine VM_aload_n X dL_law_2179 4 rfl ?_
  obtain ⟨c2180, hc2180, h⟩ := bind_some_eq h
  refine VM_callS (As := [.ref (xb x + 0), vI (xs (i + 1)).toInt, .ref (xb x + 393)]) (rest := []) (s1 := [vI c2180.1]) X hA hKI (con_xLaw0_crooked N 393 K z hKI.ks hKI.2.2.2.1 g (xs (i + 1)).toInt c2180 hc2180) gwL_crooked_251 hdL_crooked ⟨Nat.le_of_ble_eq_true rfl, Nat.le_of_ble_eq_true rfl⟩ rfl rfl (Nat.le_of_ble_eq_true rfl) dL_law_2180 rfl rfl (fun hKSc => ?_)
  have hKI := hKI.on hKSc
  refine VM_istore X dL_law_2183 (by decide) (L' := [(5, vI c2180.1), (4, vI (i : Int)), (0, .ref b0), (1, .ref (xb x + 0)), (2, .ref (xb x + 350)), (3, .ref (xb x + 393))]) rfl ?_
  refine VM_aload_n X dL_law_2185 4 rfl ?_
  refine VM_aload_n X dL_law_2186 2 rfl ?_
  refine VM_iload X dL_law_2187 1 rfl ?_
  refine VM_iconst X dL_law_2189 ?_
  refine VM_iadd X dL_law_2190 ?_
  refine VM_sld (i + 1) hX (by omega) ((w32_of (by omega) (by omega)).trans (by omega)) dL_law_2191 ?_
  obtain ⟨c2192, hc2192, h⟩ := bind_some_eq h
  refine VM_callM (N := 73) (T := TX10) (As := [vI (xs (i + 1)).toInt]) (rest := []) (s1 := [vI c2192.1]) X hA hKI (con_m_crooked N gm (xs (i + 1)).toInt c2192 hc2192) gwN_crooked_253 hdN_crooked ⟨Nat.le_of_ble_eq_true rfl, Nat.le_of_ble_eq_true rfl⟩ rfl rfl rfl (Nat.le_of_ble_eq_true rfl) dL_law_2192 rfl rfl ?_
  refine VM_istore X dL_law_2195 (by decide) (L' := [(6, vI c2192.1), (5, vI c2180.1), (4, vI (i : Int)), (0, .ref b0), (1, .ref (xb x + 0)), (2, .ref (xb x + 350)), (3, .ref (xb x + 393))]) rfl ?_
  refine VM_aload_n X dL_law_2197 5 rfl ?_
  obtain ⟨c2198, hc2198, h⟩ := bind_some_eq h
  refine VM_callM (N := 73) (T := TX10) (As := []) (rest := []) (s1 := [vI c2198]) X hA hKI (con_m_thrown c2192.2 c2198 hc2198) gwN_thrown_149 hdN_thrown ⟨Nat.le_of_ble_eq_true rfl, Nat.le_of_ble_eq_true rfl⟩ rfl rfl rfl (Nat.le_of_ble_eq_true rfl) dL_law_2198 rfl rfl ?_
  refine VM_iload X dL_law_2201 1 rfl ?_
  refine VM_icmp_eq (tgt := 2208) X dL_law_2203 (by decide) h (fun h => ?_) (fun h => by cases h)
  refine VM_iload X dL_law_2208 1 rfl ?_
  refine VM_if_ne (tgt := 2225) X dL_law_2210 (by decide) h (fun h => ?_) (fun h => ?_)
  · refine VM_goto (tgt := 2918) X dL_law_2225 (by decide) ?_
    have hr := Option.some.inj h
    subst hr
    exact VM_sub [2, 3, 4, 5, 6] rfl (k hKI)
  · refine VM_aload_n X dL_law_2213 6 rfl ?_
    refine VM_iconst X dL_law_2214 ?_
    refine VM_lald (o := 393) (n := 1) X hKI.2.2.2.1 (by decide) dL_law_2215 h (fun v2215 h => ?_)
    refine VM_iload X dL_law_2216 0 rfl ?_
    refine VM_i2l X dL_law_2218 ?_
    refine VM_lcmp X dL_law_2219 ?_
    refine VM_if_eq (tgt := 2225) X dL_law_2220 (by decide) h (fun h => ?_) (fun h => by cases h)
    refine VM_goto (tgt := 2918) X dL_law_2225 (by decide) ?_
    have hr := Option.some.inj h
    subst hr
    exact VM_sub [2, 3, 4, 5, 6] rfl (k hKI)
set_option maxHeartbeats 4000000 in
theorem case_33 {x : CT} {b0 Ls : Nat} {xs : Nat → Int32} (hX : XM_ x code 8 RX0 (some .boolean) b0 Ls xs) (N : Nat) (K : Nat → Nat) (z : Nat) (g gm : GS) (hKI : KI K z) (i : Nat) (hi : i + 7 ≤ Ls) (r : S3 × GS) (h : lc_33 N K z g gm (xs (i + 1)).toInt (xs (i + 2)).toInt (xs (i + 3)).toInt (xs (i + 4)).toInt (xs (i + 5)).toInt (xs (i + 6)).toInt = some r) (k : KI r.1.1 r.1.2.1 → VM x 8 r.1.1 r.1.2.1 r.1.2.2 r.2 2918 [(4, vI (i : Int)), (0, .ref b0), (1, .ref (xb x + 0)), (2, .ref (xb x + 350)), (3, .ref (xb x + 393))] []) : VM x 8 K z g gm 2228 [(4, vI (i : Int)), (0, .ref b0), (1, .ref (xb x + 0)), (2, .ref (xb x + 350)), (3, .ref (xb x + 393))] [] := by
  have X := hX.1
  have hA := hX.2.1
  have hLs := hX.2.2.2.2.2
  unfold lc_33 at h
  refine VM_aload_n X dL_law_2228 2 rfl ?_
  refine VM_aload_n X dL_law_2229 1 rfl ?_
  refine VM_iload X dL_law_2230 0 rfl ?_
  refine VM_iconst X dL_law_2232 ?_
  refine VM_iadd X dL_law_2233 ?_
  refine VM_sld (i + 1) hX (by omega) ((w32_of (by omega) (by omega)).trans (by omega)) dL_law_2234 ?_
  refine VM_aload_n X dL_law_2235 4 rfl ?_
  obtain ⟨c2236, hc2236, h⟩ := bind_some_eq h
  refine VM_callS (As := [.ref (xb x + 0), vI (xs (i + 1)).toInt, .ref (xb x + 393)]) (rest := []) (s1 := [vI c2236.1]) X hA hKI (con_xLaw0_share 393 K z hKI.ks hKI.2.2.2.1 g (xs (i + 1)).toInt c2236 hc2236) gwL_share_254 hdL_share ⟨Nat.le_of_ble_eq_true rfl, Nat.le_of_ble_eq_true rfl⟩ rfl rfl (Nat.le_of_ble_eq_true rfl) dL_law_2236 rfl rfl (fun hKSc => ?_)
  have hKI := hKI.on hKSc
  refine VM_istore X dL_law_2239 (by decide) (L' := [(5, vI c2236.1), (4, vI (i : Int)), (0, .ref b0), (1, .ref (xb x + 0)), (2, .ref (xb x + 350)), (3, .ref (xb x + 393))]) rfl ?_
  refine VM_aload_n X dL_law_2241 4 rfl ?_
  refine VM_aload_n X dL_law_2242 2 rfl ?_
  refine VM_iload X dL_law_2243 1 rfl ?_
  refine VM_iconst X dL_law_2245 ?_
  refine VM_iadd X dL_law_2246 ?_
  refine VM_sld (i + 1) hX (by omega) ((w32_of (by omega) (by omega)).trans (by omega)) dL_law_2247 ?_
  obtain ⟨c2248, hc2248, h⟩ := bind_some_eq h
  refine VM_callM (N := 73) (T := TX10) (As := [vI (xs (i + 1)).toInt]) (rest := []) (s1 := [vI c2248.1]) X hA hKI (con_m_share gm (xs (i + 1)).toInt c2248 hc2248) gwN_share_256 hdN_share ⟨Nat.le_of_ble_eq_true rfl, Nat.le_of_ble_eq_true rfl⟩ rfl rfl rfl (Nat.le_of_ble_eq_true rfl) dL_law_2248 rfl rfl ?_
  refine VM_istore X dL_law_2251 (by decide) (L' := [(6, vI c2248.1), (5, vI c2236.1), (4, vI (i : Int)), (0, .ref b0), (1, .ref (xb x + 0)), (2, .ref (xb x + 350)), (3, .ref (xb x + 393))]) rfl ?_
  refine VM_aload_n X dL_law_2253 5 rfl ?_
  obtain ⟨c2254, hc2254, h⟩ := bind_some_eq h
  refine VM_callM (N := 73) (T := TX10) (As := []) (rest := []) (s1 := [vI c2254]) X hA hKI (con_m_thrown c2248.2 c2254 hc2254) gwN_thrown_149 hdN_thrown ⟨Nat.le_of_ble_eq_true rfl, Nat.le_of_ble_eq_true rfl⟩ rfl rfl rfl (Nat.le_of_ble_eq_true rfl) dL_law_2254 rfl rfl ?_
  refine VM_iload X dL_law_2257 1 rfl ?_
  refine VM_icmp_eq (tgt := 2264) X dL_law_2259 (by decide) h (fun h => ?_) (fun h => by cases h)
  refine VM_iload X dL_law_2264 1 rfl ?_
  refine VM_if_ne (tgt := 2281) X dL_law_2266 (by decide) h (fun h => ?_) (fun h => ?_)
  · refine VM_goto (tgt := 2918) X dL_law_2281 (by decide) ?_
    have hr := Option.some.inj h
    subst hr
    exact VM_sub [2, 3, 4, 5, 6] rfl (k hKI)
  · refine VM_aload_n X dL_law_2269 6 rfl ?_
    refine VM_iconst X dL_law_2270 ?_
    refine VM_lald (o := 393) (n := 1) X hKI.2.2.2.1 (by decide) dL_law_2271 h (fun v2271 h => ?_)
    refine VM_iload X dL_law_2272 0 rfl ?_
    refine VM_i2l X dL_law_2274 ?_
    refine VM_lcmp X dL_law_2275 ?_
    refine VM_if_eq (tgt := 2281) X dL_law_2276 (by decide) h (fun h => ?_) (fun h => by cases h)
    refine VM_goto (tgt := 2918) X dL_law_2281 (by decide) ?_
    have hr := Option.some.inj h
    subst hr
    exact VM_sub [2, 3, 4, 5, 6] rfl (k hKI)
set_option maxHeartbeats 4000000 in
theorem case_34 {x : CT} {b0 Ls : Nat} {xs : Nat → Int32} (hX : XM_ x code 8 RX0 (some .boolean) b0 Ls xs) (N : Nat) (K : Nat → Nat) (z : Nat) (g gm : GS) (hKI : KI K z) (i : Nat) (hi : i + 7 ≤ Ls) (r : S3 × GS) (h : lc_34 N K z g gm (xs (i + 1)).toInt (xs (i + 2)).toInt (xs (i + 3)).toInt (xs (i + 4)).toInt (xs (i + 5)).toInt (xs (i + 6)).toInt = some r) (k : KI r.1.1 r.1.2.1 → VM x 8 r.1.1 r.1.2.1 r.1.2.2 r.2 2918 [(4, vI (i : Int)), (0, .ref b0), (1, .ref (xb x + 0)), (2, .ref (xb x + 350)), (3, .ref (xb x + 393))] []) : VM x 8 K z g gm 2284 [(4, vI (i : Int)), (0, .ref b0), (1, .ref (xb x + 0)), (2, .ref (xb x + 350)), (3, .ref (xb x + 393))] [] := by
  have X := hX.1
  have hA := hX.2.1
  have hLs := hX.2.2.2.2.2
  unfold lc_34 at h
  refine VM_aload_n X dL_law_2284 2 rfl ?_
  refine VM_aload_n X dL_law_2285 1 rfl ?_
  refine VM_iload X dL_law_2286 0 rfl ?_
  refine VM_iconst X dL_law_2288 ?_
  refine VM_iadd X dL_law_2289 ?_
  refine VM_sld (i + 1) hX (by omega) ((w32_of (by omega) (by omega)).trans (by omega)) dL_law_2290 ?_
  refine VM_aload_n X dL_law_2291 4 rfl ?_
  obtain ⟨c2292, hc2292, h⟩ := bind_some_eq h
  refine VM_callS (As := [.ref (xb x + 0), vI (xs (i + 1)).toInt, .ref (xb x + 393)]) (rest := []) (s1 := [vI c2292.1]) X hA hKI (con_xLaw0_drive N 393 K z hKI.ks hKI.2.2.2.1 g (xs (i + 1)).toInt c2292 hc2292) gwL_drive_257 hdL_drive ⟨Nat.le_of_ble_eq_true rfl, Nat.le_of_ble_eq_true rfl⟩ rfl rfl (Nat.le_of_ble_eq_true rfl) dL_law_2292 rfl rfl (fun hKSc => ?_)
  have hKI := hKI.on hKSc
  refine VM_istore X dL_law_2295 (by decide) (L' := [(5, vI c2292.1), (4, vI (i : Int)), (0, .ref b0), (1, .ref (xb x + 0)), (2, .ref (xb x + 350)), (3, .ref (xb x + 393))]) rfl ?_
  refine VM_aload_n X dL_law_2297 4 rfl ?_
  refine VM_aload_n X dL_law_2298 2 rfl ?_
  refine VM_iload X dL_law_2299 1 rfl ?_
  refine VM_iconst X dL_law_2301 ?_
  refine VM_iadd X dL_law_2302 ?_
  refine VM_sld (i + 1) hX (by omega) ((w32_of (by omega) (by omega)).trans (by omega)) dL_law_2303 ?_
  obtain ⟨c2304, hc2304, h⟩ := bind_some_eq h
  refine VM_callM (N := 73) (T := TX10) (As := [vI (xs (i + 1)).toInt]) (rest := []) (s1 := [vI c2304.1]) X hA hKI (con_m_drive N gm (xs (i + 1)).toInt c2304 hc2304) gwN_drive_259 hdN_drive ⟨Nat.le_of_ble_eq_true rfl, Nat.le_of_ble_eq_true rfl⟩ rfl rfl rfl (Nat.le_of_ble_eq_true rfl) dL_law_2304 rfl rfl ?_
  refine VM_istore X dL_law_2307 (by decide) (L' := [(6, vI c2304.1), (5, vI c2292.1), (4, vI (i : Int)), (0, .ref b0), (1, .ref (xb x + 0)), (2, .ref (xb x + 350)), (3, .ref (xb x + 393))]) rfl ?_
  refine VM_aload_n X dL_law_2309 5 rfl ?_
  obtain ⟨c2310, hc2310, h⟩ := bind_some_eq h
  refine VM_callM (N := 73) (T := TX10) (As := []) (rest := []) (s1 := [vI c2310]) X hA hKI (con_m_thrown c2304.2 c2310 hc2310) gwN_thrown_149 hdN_thrown ⟨Nat.le_of_ble_eq_true rfl, Nat.le_of_ble_eq_true rfl⟩ rfl rfl rfl (Nat.le_of_ble_eq_true rfl) dL_law_2310 rfl rfl ?_
  refine VM_iload X dL_law_2313 1 rfl ?_
  refine VM_icmp_eq (tgt := 2320) X dL_law_2315 (by decide) h (fun h => ?_) (fun h => by cases h)
  refine VM_iload X dL_law_2320 1 rfl ?_
  refine VM_if_ne (tgt := 2337) X dL_law_2322 (by decide) h (fun h => ?_) (fun h => ?_)
  · refine VM_goto (tgt := 2918) X dL_law_2337 (by decide) ?_
    have hr := Option.some.inj h
    subst hr
    exact VM_sub [2, 3, 4, 5, 6] rfl (k hKI)
  · refine VM_aload_n X dL_law_2325 6 rfl ?_
    refine VM_iconst X dL_law_2326 ?_
    refine VM_lald (o := 393) (n := 1) X hKI.2.2.2.1 (by decide) dL_law_2327 h (fun v2327 h => ?_)
    refine VM_iload X dL_law_2328 0 rfl ?_
    refine VM_i2l X dL_law_2330 ?_
    refine VM_lcmp X dL_law_2331 ?_
    refine VM_if_eq (tgt := 2337) X dL_law_2332 (by decide) h (fun h => ?_) (fun h => by cases h)
    refine VM_goto (tgt := 2918) X dL_law_2337 (by decide) ?_
    have hr := Option.some.inj h
    subst hr
    exact VM_sub [2, 3, 4, 5, 6] rfl (k hKI)
set_option maxHeartbeats 4000000 in
theorem case_35 {x : CT} {b0 Ls : Nat} {xs : Nat → Int32} (hX : XM_ x code 8 RX0 (some .boolean) b0 Ls xs) (N : Nat) (K : Nat → Nat) (z : Nat) (g gm : GS) (hKI : KI K z) (i : Nat) (hi : i + 7 ≤ Ls) (r : S3 × GS) (h : lc_35 N K z g gm (xs (i + 1)).toInt (xs (i + 2)).toInt (xs (i + 3)).toInt (xs (i + 4)).toInt (xs (i + 5)).toInt (xs (i + 6)).toInt = some r) (k : KI r.1.1 r.1.2.1 → VM x 8 r.1.1 r.1.2.1 r.1.2.2 r.2 2918 [(4, vI (i : Int)), (0, .ref b0), (1, .ref (xb x + 0)), (2, .ref (xb x + 350)), (3, .ref (xb x + 393))] []) : VM x 8 K z g gm 2340 [(4, vI (i : Int)), (0, .ref b0), (1, .ref (xb x + 0)), (2, .ref (xb x + 350)), (3, .ref (xb x + 393))] [] := by
  have X := hX.1
  have hA := hX.2.1
  have hLs := hX.2.2.2.2.2
  unfold lc_35 at h
  refine VM_aload_n X dL_law_2340 2 rfl ?_
  refine VM_aload_n X dL_law_2341 1 rfl ?_
  refine VM_iload X dL_law_2342 0 rfl ?_
  refine VM_iconst X dL_law_2344 ?_
  refine VM_iadd X dL_law_2345 ?_
  refine VM_sld (i + 1) hX (by omega) ((w32_of (by omega) (by omega)).trans (by omega)) dL_law_2346 ?_
  refine VM_aload_n X dL_law_2347 4 rfl ?_
  obtain ⟨c2348, hc2348, h⟩ := bind_some_eq h
  refine VM_callS (As := [.ref (xb x + 0), vI (xs (i + 1)).toInt, .ref (xb x + 393)]) (rest := []) (s1 := [vI c2348.1]) X hA hKI (con_xLaw0_pumps N 393 K z hKI.ks hKI.2.2.2.1 g (xs (i + 1)).toInt c2348 hc2348) gwL_pumps_260 hdL_pumps ⟨Nat.le_of_ble_eq_true rfl, Nat.le_of_ble_eq_true rfl⟩ rfl rfl (Nat.le_of_ble_eq_true rfl) dL_law_2348 rfl rfl (fun hKSc => ?_)
  have hKI := hKI.on hKSc
  refine VM_istore X dL_law_2351 (by decide) (L' := [(5, vI c2348.1), (4, vI (i : Int)), (0, .ref b0), (1, .ref (xb x + 0)), (2, .ref (xb x + 350)), (3, .ref (xb x + 393))]) rfl ?_
  refine VM_aload_n X dL_law_2353 4 rfl ?_
  refine VM_aload_n X dL_law_2354 2 rfl ?_
  refine VM_iload X dL_law_2355 1 rfl ?_
  refine VM_iconst X dL_law_2357 ?_
  refine VM_iadd X dL_law_2358 ?_
  refine VM_sld (i + 1) hX (by omega) ((w32_of (by omega) (by omega)).trans (by omega)) dL_law_2359 ?_
  obtain ⟨c2360, hc2360, h⟩ := bind_some_eq h
  refine VM_callM (N := 73) (T := TX10) (As := [vI (xs (i + 1)).toInt]) (rest := []) (s1 := [vI c2360.1]) X hA hKI (con_m_pumps N gm (xs (i + 1)).toInt c2360 hc2360) gwN_pumps_262 hdN_pumps ⟨Nat.le_of_ble_eq_true rfl, Nat.le_of_ble_eq_true rfl⟩ rfl rfl rfl (Nat.le_of_ble_eq_true rfl) dL_law_2360 rfl rfl ?_
  refine VM_istore X dL_law_2363 (by decide) (L' := [(6, vI c2360.1), (5, vI c2348.1), (4, vI (i : Int)), (0, .ref b0), (1, .ref (xb x + 0)), (2, .ref (xb x + 350)), (3, .ref (xb x + 393))]) rfl ?_
  refine VM_aload_n X dL_law_2365 5 rfl ?_
  obtain ⟨c2366, hc2366, h⟩ := bind_some_eq h
  refine VM_callM (N := 73) (T := TX10) (As := []) (rest := []) (s1 := [vI c2366]) X hA hKI (con_m_thrown c2360.2 c2366 hc2366) gwN_thrown_149 hdN_thrown ⟨Nat.le_of_ble_eq_true rfl, Nat.le_of_ble_eq_true rfl⟩ rfl rfl rfl (Nat.le_of_ble_eq_true rfl) dL_law_2366 rfl rfl ?_
  refine VM_iload X dL_law_2369 1 rfl ?_
  refine VM_icmp_eq (tgt := 2376) X dL_law_2371 (by decide) h (fun h => ?_) (fun h => by cases h)
  refine VM_iload X dL_law_2376 1 rfl ?_
  refine VM_if_ne (tgt := 2393) X dL_law_2378 (by decide) h (fun h => ?_) (fun h => ?_)
  · refine VM_goto (tgt := 2918) X dL_law_2393 (by decide) ?_
    have hr := Option.some.inj h
    subst hr
    exact VM_sub [2, 3, 4, 5, 6] rfl (k hKI)
  · refine VM_aload_n X dL_law_2381 6 rfl ?_
    refine VM_iconst X dL_law_2382 ?_
    refine VM_lald (o := 393) (n := 1) X hKI.2.2.2.1 (by decide) dL_law_2383 h (fun v2383 h => ?_)
    refine VM_iload X dL_law_2384 0 rfl ?_
    refine VM_i2l X dL_law_2386 ?_
    refine VM_lcmp X dL_law_2387 ?_
    refine VM_if_eq (tgt := 2393) X dL_law_2388 (by decide) h (fun h => ?_) (fun h => by cases h)
    refine VM_goto (tgt := 2918) X dL_law_2393 (by decide) ?_
    have hr := Option.some.inj h
    subst hr
    exact VM_sub [2, 3, 4, 5, 6] rfl (k hKI)
set_option maxHeartbeats 4000000 in
theorem case_36 {x : CT} {b0 Ls : Nat} {xs : Nat → Int32} (hX : XM_ x code 8 RX0 (some .boolean) b0 Ls xs) (N : Nat) (K : Nat → Nat) (z : Nat) (g gm : GS) (hKI : KI K z) (i : Nat) (hi : i + 7 ≤ Ls) (r : S3 × GS) (h : lc_36 N K z g gm (xs (i + 1)).toInt (xs (i + 2)).toInt (xs (i + 3)).toInt (xs (i + 4)).toInt (xs (i + 5)).toInt (xs (i + 6)).toInt = some r) (k : KI r.1.1 r.1.2.1 → VM x 8 r.1.1 r.1.2.1 r.1.2.2 r.2 2918 [(4, vI (i : Int)), (0, .ref b0), (1, .ref (xb x + 0)), (2, .ref (xb x + 350)), (3, .ref (xb x + 393))] []) : VM x 8 K z g gm 2396 [(4, vI (i : Int)), (0, .ref b0), (1, .ref (xb x + 0)), (2, .ref (xb x + 350)), (3, .ref (xb x + 393))] [] := by
  have X := hX.1
  have hA := hX.2.1
  have hLs := hX.2.2.2.2.2
  unfold lc_36 at h
  refine VM_aload_n X dL_law_2396 2 rfl ?_
  refine VM_aload_n X dL_law_2397 1 rfl ?_
  refine VM_iload X dL_law_2398 0 rfl ?_
  refine VM_iconst X dL_law_2400 ?_
  refine VM_iadd X dL_law_2401 ?_
  refine VM_sld (i + 1) hX (by omega) ((w32_of (by omega) (by omega)).trans (by omega)) dL_law_2402 ?_
  refine VM_aload_n X dL_law_2403 1 rfl ?_
  refine VM_iload X dL_law_2404 0 rfl ?_
  refine VM_iconst X dL_law_2406 ?_
  refine VM_iadd X dL_law_2407 ?_
  refine VM_sld (i + 2) hX (by omega) ((w32_of (by omega) (by omega)).trans (by omega)) dL_law_2408 ?_
  refine VM_aload_n X dL_law_2409 4 rfl ?_
  obtain ⟨c2410, hc2410, h⟩ := bind_some_eq h
  refine VM_callS (As := [.ref (xb x + 0), vI (xs (i + 1)).toInt, vI (xs (i + 2)).toInt, .ref (xb x + 393)]) (rest := []) (s1 := [vI c2410.1]) X hA hKI (con_xLaw0_odds N 393 K z hKI.ks hKI.2.2.2.1 g (xs (i + 1)).toInt (xs (i + 2)).toInt c2410 hc2410) gwL_odds_263 hdL_odds ⟨Nat.le_of_ble_eq_true rfl, Nat.le_of_ble_eq_true rfl⟩ rfl rfl (Nat.le_of_ble_eq_true rfl) dL_law_2410 rfl rfl (fun hKSc => ?_)
  have hKI := hKI.on hKSc
  refine VM_istore X dL_law_2413 (by decide) (L' := [(5, vI c2410.1), (4, vI (i : Int)), (0, .ref b0), (1, .ref (xb x + 0)), (2, .ref (xb x + 350)), (3, .ref (xb x + 393))]) rfl ?_
  refine VM_aload_n X dL_law_2415 4 rfl ?_
  refine VM_aload_n X dL_law_2416 2 rfl ?_
  refine VM_iload X dL_law_2417 1 rfl ?_
  refine VM_iconst X dL_law_2419 ?_
  refine VM_iadd X dL_law_2420 ?_
  refine VM_sld (i + 1) hX (by omega) ((w32_of (by omega) (by omega)).trans (by omega)) dL_law_2421 ?_
  refine VM_aload_n X dL_law_2422 2 rfl ?_
  refine VM_iload X dL_law_2423 1 rfl ?_
  refine VM_iconst X dL_law_2425 ?_
  refine VM_iadd X dL_law_2426 ?_
  refine VM_sld (i + 2) hX (by omega) ((w32_of (by omega) (by omega)).trans (by omega)) dL_law_2427 ?_
  obtain ⟨c2428, hc2428, h⟩ := bind_some_eq h
  refine VM_callM (N := 73) (T := TX10) (As := [vI (xs (i + 1)).toInt, vI (xs (i + 2)).toInt]) (rest := []) (s1 := [vL c2428.1]) X hA hKI (con_m_odds N gm (xs (i + 1)).toInt (xs (i + 2)).toInt c2428 hc2428) gwN_odds_265 hdN_odds ⟨Nat.le_of_ble_eq_true rfl, Nat.le_of_ble_eq_true rfl⟩ rfl rfl rfl (Nat.le_of_ble_eq_true rfl) dL_law_2428 rfl rfl ?_
  refine VM_lstore X dL_law_2431 (by decide) (L' := [(6, vL c2428.1), (5, vI c2410.1), (4, vI (i : Int)), (0, .ref b0), (1, .ref (xb x + 0)), (2, .ref (xb x + 350)), (3, .ref (xb x + 393))]) rfl ?_
  refine VM_aload_n X dL_law_2433 5 rfl ?_
  obtain ⟨c2434, hc2434, h⟩ := bind_some_eq h
  refine VM_callM (N := 73) (T := TX10) (As := []) (rest := []) (s1 := [vI c2434]) X hA hKI (con_m_thrown c2428.2 c2434 hc2434) gwN_thrown_149 hdN_thrown ⟨Nat.le_of_ble_eq_true rfl, Nat.le_of_ble_eq_true rfl⟩ rfl rfl rfl (Nat.le_of_ble_eq_true rfl) dL_law_2434 rfl rfl ?_
  refine VM_iload X dL_law_2437 1 rfl ?_
  refine VM_icmp_eq (tgt := 2444) X dL_law_2439 (by decide) h (fun h => ?_) (fun h => by cases h)
  refine VM_iload X dL_law_2444 1 rfl ?_
  refine VM_if_ne (tgt := 2460) X dL_law_2446 (by decide) h (fun h => ?_) (fun h => ?_)
  · refine VM_goto (tgt := 2918) X dL_law_2460 (by decide) ?_
    have hr := Option.some.inj h
    subst hr
    exact VM_sub [2, 3, 4, 5, 6] rfl (k hKI)
  · refine VM_aload_n X dL_law_2449 6 rfl ?_
    refine VM_iconst X dL_law_2450 ?_
    refine VM_lald (o := 393) (n := 1) X hKI.2.2.2.1 (by decide) dL_law_2451 h (fun v2451 h => ?_)
    refine VM_lload X dL_law_2452 0 rfl ?_
    refine VM_lcmp X dL_law_2454 ?_
    refine VM_if_eq (tgt := 2460) X dL_law_2455 (by decide) h (fun h => ?_) (fun h => by cases h)
    refine VM_goto (tgt := 2918) X dL_law_2460 (by decide) ?_
    have hr := Option.some.inj h
    subst hr
    exact VM_sub [2, 3, 4, 5, 6] rfl (k hKI)
set_option maxHeartbeats 4000000 in
theorem case_37 {x : CT} {b0 Ls : Nat} {xs : Nat → Int32} (hX : XM_ x code 8 RX0 (some .boolean) b0 Ls xs) (N : Nat) (K : Nat → Nat) (z : Nat) (g gm : GS) (hKI : KI K z) (i : Nat) (hi : i + 7 ≤ Ls) (r : S3 × GS) (h : lc_37 N K z g gm (xs (i + 1)).toInt (xs (i + 2)).toInt (xs (i + 3)).toInt (xs (i + 4)).toInt (xs (i + 5)).toInt (xs (i + 6)).toInt = some r) (k : KI r.1.1 r.1.2.1 → VM x 8 r.1.1 r.1.2.1 r.1.2.2 r.2 2918 [(4, vI (i : Int)), (0, .ref b0), (1, .ref (xb x + 0)), (2, .ref (xb x + 350)), (3, .ref (xb x + 393))] []) : VM x 8 K z g gm 2463 [(4, vI (i : Int)), (0, .ref b0), (1, .ref (xb x + 0)), (2, .ref (xb x + 350)), (3, .ref (xb x + 393))] [] := by
  have X := hX.1
  have hA := hX.2.1
  have hLs := hX.2.2.2.2.2
  unfold lc_37 at h
  refine VM_aload_n X dL_law_2463 2 rfl ?_
  obtain ⟨c2464, hc2464, h⟩ := bind_some_eq h
  refine VM_callX (ci := 0) (N := 18) (T := TX1) (As := []) (rest := []) (s1 := [vI c2464]) (o := 0) X hA hKI (con_x_likeliest K hKI.1.1 N g c2464 hc2464) gwM_likeliest_266 hdM_likeliest ⟨Nat.le_of_ble_eq_true rfl, Nat.le_of_ble_eq_true rfl⟩ rfl (by decide) (hKI.1.1.at 0 rfl) rfl rfl (Nat.le_of_ble_eq_true rfl) dL_law_2464 rfl rfl ?_
  refine VM_aload_n X dL_law_2467 3 rfl ?_
  obtain ⟨c2468, hc2468, h⟩ := bind_some_eq h
  refine VM_callM (N := 73) (T := TX10) (As := []) (rest := [vI c2464]) (s1 := [vI c2468.1, vI c2464]) X hA hKI (con_m_likeliest N gm c2468 hc2468) gwN_likeliest_269 hdN_likeliest ⟨Nat.le_of_ble_eq_true rfl, Nat.le_of_ble_eq_true rfl⟩ rfl rfl rfl (Nat.le_of_ble_eq_true rfl) dL_law_2468 rfl rfl ?_
  refine VM_icmp_eq (tgt := 2918) X dL_law_2471 (by decide) h (fun h => ?_) (fun h => by cases h)
  have hr := Option.some.inj h
  subst hr
  exact VM_sub [0, 1, 2, 3, 4] rfl (k hKI)
set_option maxHeartbeats 4000000 in
theorem case_38 {x : CT} {b0 Ls : Nat} {xs : Nat → Int32} (hX : XM_ x code 8 RX0 (some .boolean) b0 Ls xs) (N : Nat) (K : Nat → Nat) (z : Nat) (g gm : GS) (hKI : KI K z) (i : Nat) (hi : i + 7 ≤ Ls) (r : S3 × GS) (h : lc_38 N K z g gm (xs (i + 1)).toInt (xs (i + 2)).toInt (xs (i + 3)).toInt (xs (i + 4)).toInt (xs (i + 5)).toInt (xs (i + 6)).toInt = some r) (k : KI r.1.1 r.1.2.1 → VM x 8 r.1.1 r.1.2.1 r.1.2.2 r.2 2918 [(4, vI (i : Int)), (0, .ref b0), (1, .ref (xb x + 0)), (2, .ref (xb x + 350)), (3, .ref (xb x + 393))] []) : VM x 8 K z g gm 2476 [(4, vI (i : Int)), (0, .ref b0), (1, .ref (xb x + 0)), (2, .ref (xb x + 350)), (3, .ref (xb x + 393))] [] := by
  have X := hX.1
  have hA := hX.2.1
  have hLs := hX.2.2.2.2.2
  unfold lc_38 at h
  refine VM_aload_n X dL_law_2476 2 rfl ?_
  obtain ⟨c2477, hc2477, h⟩ := bind_some_eq h
  refine VM_callX (ci := 0) (N := 18) (T := TX1) (As := []) (rest := []) (s1 := [vI c2477]) (o := 0) X hA hKI (con_x_ask K hKI.1.1 N g c2477 hc2477) gwM_ask_270 hdM_ask ⟨Nat.le_of_ble_eq_true rfl, Nat.le_of_ble_eq_true rfl⟩ rfl (by decide) (hKI.1.1.at 0 rfl) rfl rfl (Nat.le_of_ble_eq_true rfl) dL_law_2477 rfl rfl ?_
  refine VM_aload_n X dL_law_2480 3 rfl ?_
  obtain ⟨c2481, hc2481, h⟩ := bind_some_eq h
  refine VM_callM (N := 73) (T := TX10) (As := []) (rest := [vI c2477]) (s1 := [vI c2481.1, vI c2477]) X hA hKI (con_m_ask N gm c2481 hc2481) gwN_ask_273 hdN_ask ⟨Nat.le_of_ble_eq_true rfl, Nat.le_of_ble_eq_true rfl⟩ rfl rfl rfl (Nat.le_of_ble_eq_true rfl) dL_law_2481 rfl rfl ?_
  refine VM_icmp_eq (tgt := 2918) X dL_law_2484 (by decide) h (fun h => ?_) (fun h => by cases h)
  have hr := Option.some.inj h
  subst hr
  exact VM_sub [0, 1, 2, 3, 4] rfl (k hKI)
set_option maxHeartbeats 4000000 in
theorem case_39 {x : CT} {b0 Ls : Nat} {xs : Nat → Int32} (hX : XM_ x code 8 RX0 (some .boolean) b0 Ls xs) (N : Nat) (K : Nat → Nat) (z : Nat) (g gm : GS) (hKI : KI K z) (i : Nat) (hi : i + 7 ≤ Ls) (r : S3 × GS) (h : lc_39 N K z g gm (xs (i + 1)).toInt (xs (i + 2)).toInt (xs (i + 3)).toInt (xs (i + 4)).toInt (xs (i + 5)).toInt (xs (i + 6)).toInt = some r) (k : KI r.1.1 r.1.2.1 → VM x 8 r.1.1 r.1.2.1 r.1.2.2 r.2 2918 [(4, vI (i : Int)), (0, .ref b0), (1, .ref (xb x + 0)), (2, .ref (xb x + 350)), (3, .ref (xb x + 393))] []) : VM x 8 K z g gm 2489 [(4, vI (i : Int)), (0, .ref b0), (1, .ref (xb x + 0)), (2, .ref (xb x + 350)), (3, .ref (xb x + 393))] [] := by
  have X := hX.1
  have hA := hX.2.1
  have hLs := hX.2.2.2.2.2
  unfold lc_39 at h
  refine VM_aload_n X dL_law_2489 2 rfl ?_
  refine VM_aload_n X dL_law_2490 1 rfl ?_
  refine VM_iload X dL_law_2491 0 rfl ?_
  refine VM_iconst X dL_law_2493 ?_
  refine VM_iadd X dL_law_2494 ?_
  refine VM_sld (i + 1) hX (by omega) ((w32_of (by omega) (by omega)).trans (by omega)) dL_law_2495 ?_
  refine VM_aload_n X dL_law_2496 1 rfl ?_
  refine VM_iload X dL_law_2497 0 rfl ?_
  refine VM_iconst X dL_law_2499 ?_
  refine VM_iadd X dL_law_2500 ?_
  refine VM_sld (i + 2) hX (by omega) ((w32_of (by omega) (by omega)).trans (by omega)) dL_law_2501 ?_
  refine VM_aload_n X dL_law_2502 4 rfl ?_
  obtain ⟨c2503, hc2503, h⟩ := bind_some_eq h
  refine VM_callS (As := [.ref (xb x + 0), vI (xs (i + 1)).toInt, vI (xs (i + 2)).toInt, .ref (xb x + 393)]) (rest := []) (s1 := [vI c2503.1]) X hA hKI (con_xLaw0_evening N 393 K z hKI.ks hKI.2.2.2.1 g (xs (i + 1)).toInt (xs (i + 2)).toInt c2503 hc2503) gwL_evening_274 hdL_evening ⟨Nat.le_of_ble_eq_true rfl, Nat.le_of_ble_eq_true rfl⟩ rfl rfl (Nat.le_of_ble_eq_true rfl) dL_law_2503 rfl rfl (fun hKSc => ?_)
  have hKI := hKI.on hKSc
  refine VM_istore X dL_law_2506 (by decide) (L' := [(5, vI c2503.1), (4, vI (i : Int)), (0, .ref b0), (1, .ref (xb x + 0)), (2, .ref (xb x + 350)), (3, .ref (xb x + 393))]) rfl ?_
  refine VM_aload_n X dL_law_2508 4 rfl ?_
  refine VM_aload_n X dL_law_2509 2 rfl ?_
  refine VM_iload X dL_law_2510 1 rfl ?_
  refine VM_iconst X dL_law_2512 ?_
  refine VM_iadd X dL_law_2513 ?_
  refine VM_sld (i + 1) hX (by omega) ((w32_of (by omega) (by omega)).trans (by omega)) dL_law_2514 ?_
  refine VM_aload_n X dL_law_2515 2 rfl ?_
  refine VM_iload X dL_law_2516 1 rfl ?_
  refine VM_iconst X dL_law_2518 ?_
  refine VM_iadd X dL_law_2519 ?_
  refine VM_sld (i + 2) hX (by omega) ((w32_of (by omega) (by omega)).trans (by omega)) dL_law_2520 ?_
  obtain ⟨c2521, hc2521, h⟩ := bind_some_eq h
  refine VM_callM (N := 73) (T := TX10) (As := [vI (xs (i + 1)).toInt, vI (xs (i + 2)).toInt]) (rest := []) (s1 := [vI c2521.1]) X hA hKI (con_m_evening N gm (xs (i + 1)).toInt (xs (i + 2)).toInt c2521 hc2521) gwN_evening_276 hdN_evening ⟨Nat.le_of_ble_eq_true rfl, Nat.le_of_ble_eq_true rfl⟩ rfl rfl rfl (Nat.le_of_ble_eq_true rfl) dL_law_2521 rfl rfl ?_
  refine VM_istore X dL_law_2524 (by decide) (L' := [(6, vI c2521.1), (5, vI c2503.1), (4, vI (i : Int)), (0, .ref b0), (1, .ref (xb x + 0)), (2, .ref (xb x + 350)), (3, .ref (xb x + 393))]) rfl ?_
  refine VM_aload_n X dL_law_2526 5 rfl ?_
  obtain ⟨c2527, hc2527, h⟩ := bind_some_eq h
  refine VM_callM (N := 73) (T := TX10) (As := []) (rest := []) (s1 := [vI c2527]) X hA hKI (con_m_thrown c2521.2 c2527 hc2527) gwN_thrown_149 hdN_thrown ⟨Nat.le_of_ble_eq_true rfl, Nat.le_of_ble_eq_true rfl⟩ rfl rfl rfl (Nat.le_of_ble_eq_true rfl) dL_law_2527 rfl rfl ?_
  refine VM_iload X dL_law_2530 1 rfl ?_
  refine VM_icmp_eq (tgt := 2537) X dL_law_2532 (by decide) h (fun h => ?_) (fun h => by cases h)
  refine VM_iload X dL_law_2537 1 rfl ?_
  refine VM_if_ne (tgt := 2554) X dL_law_2539 (by decide) h (fun h => ?_) (fun h => ?_)
  · refine VM_goto (tgt := 2918) X dL_law_2554 (by decide) ?_
    have hr := Option.some.inj h
    subst hr
    exact VM_sub [2, 3, 4, 5, 6] rfl (k hKI)
  · refine VM_aload_n X dL_law_2542 6 rfl ?_
    refine VM_iconst X dL_law_2543 ?_
    refine VM_lald (o := 393) (n := 1) X hKI.2.2.2.1 (by decide) dL_law_2544 h (fun v2544 h => ?_)
    refine VM_iload X dL_law_2545 0 rfl ?_
    refine VM_i2l X dL_law_2547 ?_
    refine VM_lcmp X dL_law_2548 ?_
    refine VM_if_eq (tgt := 2554) X dL_law_2549 (by decide) h (fun h => ?_) (fun h => by cases h)
    refine VM_goto (tgt := 2918) X dL_law_2554 (by decide) ?_
    have hr := Option.some.inj h
    subst hr
    exact VM_sub [2, 3, 4, 5, 6] rfl (k hKI)
set_option maxHeartbeats 4000000 in
theorem case_40 {x : CT} {b0 Ls : Nat} {xs : Nat → Int32} (hX : XM_ x code 8 RX0 (some .boolean) b0 Ls xs) (N : Nat) (K : Nat → Nat) (z : Nat) (g gm : GS) (hKI : KI K z) (i : Nat) (hi : i + 7 ≤ Ls) (r : S3 × GS) (h : lc_40 N K z g gm (xs (i + 1)).toInt (xs (i + 2)).toInt (xs (i + 3)).toInt (xs (i + 4)).toInt (xs (i + 5)).toInt (xs (i + 6)).toInt = some r) (k : KI r.1.1 r.1.2.1 → VM x 8 r.1.1 r.1.2.1 r.1.2.2 r.2 2918 [(4, vI (i : Int)), (0, .ref b0), (1, .ref (xb x + 0)), (2, .ref (xb x + 350)), (3, .ref (xb x + 393))] []) : VM x 8 K z g gm 2557 [(4, vI (i : Int)), (0, .ref b0), (1, .ref (xb x + 0)), (2, .ref (xb x + 350)), (3, .ref (xb x + 393))] [] := by
  have X := hX.1
  have hA := hX.2.1
  have hLs := hX.2.2.2.2.2
  unfold lc_40 at h
  refine VM_aload_n X dL_law_2557 2 rfl ?_
  refine VM_aload_n X dL_law_2558 1 rfl ?_
  refine VM_iload X dL_law_2559 0 rfl ?_
  refine VM_iconst X dL_law_2561 ?_
  refine VM_iadd X dL_law_2562 ?_
  refine VM_sld (i + 1) hX (by omega) ((w32_of (by omega) (by omega)).trans (by omega)) dL_law_2563 ?_
  refine VM_aload_n X dL_law_2564 1 rfl ?_
  refine VM_iload X dL_law_2565 0 rfl ?_
  refine VM_iconst X dL_law_2567 ?_
  refine VM_iadd X dL_law_2568 ?_
  refine VM_sld (i + 2) hX (by omega) ((w32_of (by omega) (by omega)).trans (by omega)) dL_law_2569 ?_
  refine VM_aload_n X dL_law_2570 1 rfl ?_
  refine VM_iload X dL_law_2571 0 rfl ?_
  refine VM_iconst X dL_law_2573 ?_
  refine VM_iadd X dL_law_2574 ?_
  refine VM_sld (i + 3) hX (by omega) ((w32_of (by omega) (by omega)).trans (by omega)) dL_law_2575 ?_
  refine VM_aload_n X dL_law_2576 4 rfl ?_
  obtain ⟨c2577, hc2577, h⟩ := bind_some_eq h
  refine VM_callS (As := [.ref (xb x + 0), vI (xs (i + 1)).toInt, vI (xs (i + 2)).toInt, vI (xs (i + 3)).toInt, .ref (xb x + 393)]) (rest := []) (s1 := [vI c2577.1]) X hA hKI (con_xLaw0_evenings N 393 K z hKI.ks hKI.2.2.2.1 g (xs (i + 1)).toInt (xs (i + 2)).toInt (xs (i + 3)).toInt c2577 hc2577) gwL_evenings_277 hdL_evenings ⟨Nat.le_of_ble_eq_true rfl, Nat.le_of_ble_eq_true rfl⟩ rfl rfl (Nat.le_of_ble_eq_true rfl) dL_law_2577 rfl rfl (fun hKSc => ?_)
  have hKI := hKI.on hKSc
  refine VM_istore X dL_law_2580 (by decide) (L' := [(5, vI c2577.1), (4, vI (i : Int)), (0, .ref b0), (1, .ref (xb x + 0)), (2, .ref (xb x + 350)), (3, .ref (xb x + 393))]) rfl ?_
  refine VM_aload_n X dL_law_2582 4 rfl ?_
  refine VM_aload_n X dL_law_2583 2 rfl ?_
  refine VM_iload X dL_law_2584 1 rfl ?_
  refine VM_iconst X dL_law_2586 ?_
  refine VM_iadd X dL_law_2587 ?_
  refine VM_sld (i + 1) hX (by omega) ((w32_of (by omega) (by omega)).trans (by omega)) dL_law_2588 ?_
  refine VM_aload_n X dL_law_2589 2 rfl ?_
  refine VM_iload X dL_law_2590 1 rfl ?_
  refine VM_iconst X dL_law_2592 ?_
  refine VM_iadd X dL_law_2593 ?_
  refine VM_sld (i + 2) hX (by omega) ((w32_of (by omega) (by omega)).trans (by omega)) dL_law_2594 ?_
  refine VM_aload_n X dL_law_2595 2 rfl ?_
  refine VM_iload X dL_law_2596 1 rfl ?_
  refine VM_iconst X dL_law_2598 ?_
  refine VM_iadd X dL_law_2599 ?_
  refine VM_sld (i + 3) hX (by omega) ((w32_of (by omega) (by omega)).trans (by omega)) dL_law_2600 ?_
  obtain ⟨c2601, hc2601, h⟩ := bind_some_eq h
  refine VM_callM (N := 73) (T := TX10) (As := [vI (xs (i + 1)).toInt, vI (xs (i + 2)).toInt, vI (xs (i + 3)).toInt]) (rest := []) (s1 := [vI c2601.1]) X hA hKI (con_m_evenings N gm (xs (i + 1)).toInt (xs (i + 2)).toInt (xs (i + 3)).toInt c2601 hc2601) gwN_evenings_279 hdN_evenings ⟨Nat.le_of_ble_eq_true rfl, Nat.le_of_ble_eq_true rfl⟩ rfl rfl rfl (Nat.le_of_ble_eq_true rfl) dL_law_2601 rfl rfl ?_
  refine VM_istore X dL_law_2604 (by decide) (L' := [(6, vI c2601.1), (5, vI c2577.1), (4, vI (i : Int)), (0, .ref b0), (1, .ref (xb x + 0)), (2, .ref (xb x + 350)), (3, .ref (xb x + 393))]) rfl ?_
  refine VM_aload_n X dL_law_2606 5 rfl ?_
  obtain ⟨c2607, hc2607, h⟩ := bind_some_eq h
  refine VM_callM (N := 73) (T := TX10) (As := []) (rest := []) (s1 := [vI c2607]) X hA hKI (con_m_thrown c2601.2 c2607 hc2607) gwN_thrown_149 hdN_thrown ⟨Nat.le_of_ble_eq_true rfl, Nat.le_of_ble_eq_true rfl⟩ rfl rfl rfl (Nat.le_of_ble_eq_true rfl) dL_law_2607 rfl rfl ?_
  refine VM_iload X dL_law_2610 1 rfl ?_
  refine VM_icmp_eq (tgt := 2617) X dL_law_2612 (by decide) h (fun h => ?_) (fun h => by cases h)
  refine VM_iload X dL_law_2617 1 rfl ?_
  refine VM_if_ne (tgt := 2634) X dL_law_2619 (by decide) h (fun h => ?_) (fun h => ?_)
  · refine VM_goto (tgt := 2918) X dL_law_2634 (by decide) ?_
    have hr := Option.some.inj h
    subst hr
    exact VM_sub [2, 3, 4, 5, 6] rfl (k hKI)
  · refine VM_aload_n X dL_law_2622 6 rfl ?_
    refine VM_iconst X dL_law_2623 ?_
    refine VM_lald (o := 393) (n := 1) X hKI.2.2.2.1 (by decide) dL_law_2624 h (fun v2624 h => ?_)
    refine VM_iload X dL_law_2625 0 rfl ?_
    refine VM_i2l X dL_law_2627 ?_
    refine VM_lcmp X dL_law_2628 ?_
    refine VM_if_eq (tgt := 2634) X dL_law_2629 (by decide) h (fun h => ?_) (fun h => by cases h)
    refine VM_goto (tgt := 2918) X dL_law_2634 (by decide) ?_
    have hr := Option.some.inj h
    subst hr
    exact VM_sub [2, 3, 4, 5, 6] rfl (k hKI)
set_option maxHeartbeats 4000000 in
theorem case_41 {x : CT} {b0 Ls : Nat} {xs : Nat → Int32} (hX : XM_ x code 8 RX0 (some .boolean) b0 Ls xs) (N : Nat) (K : Nat → Nat) (z : Nat) (g gm : GS) (hKI : KI K z) (i : Nat) (hi : i + 7 ≤ Ls) (r : S3 × GS) (h : lc_41 N K z g gm (xs (i + 1)).toInt (xs (i + 2)).toInt (xs (i + 3)).toInt (xs (i + 4)).toInt (xs (i + 5)).toInt (xs (i + 6)).toInt = some r) (k : KI r.1.1 r.1.2.1 → VM x 8 r.1.1 r.1.2.1 r.1.2.2 r.2 2918 [(4, vI (i : Int)), (0, .ref b0), (1, .ref (xb x + 0)), (2, .ref (xb x + 350)), (3, .ref (xb x + 393))] []) : VM x 8 K z g gm 2637 [(4, vI (i : Int)), (0, .ref b0), (1, .ref (xb x + 0)), (2, .ref (xb x + 350)), (3, .ref (xb x + 393))] [] := by
  have X := hX.1
  have hA := hX.2.1
  have hLs := hX.2.2.2.2.2
  unfold lc_41 at h
  refine VM_aload_n X dL_law_2637 2 rfl ?_
  refine VM_aload_n X dL_law_2638 1 rfl ?_
  refine VM_iload X dL_law_2639 0 rfl ?_
  refine VM_iconst X dL_law_2641 ?_
  refine VM_iadd X dL_law_2642 ?_
  refine VM_sld (i + 1) hX (by omega) ((w32_of (by omega) (by omega)).trans (by omega)) dL_law_2643 ?_
  refine VM_aload_n X dL_law_2644 1 rfl ?_
  refine VM_iload X dL_law_2645 0 rfl ?_
  refine VM_iconst X dL_law_2647 ?_
  refine VM_iadd X dL_law_2648 ?_
  refine VM_sld (i + 2) hX (by omega) ((w32_of (by omega) (by omega)).trans (by omega)) dL_law_2649 ?_
  refine VM_aload_n X dL_law_2650 4 rfl ?_
  obtain ⟨c2651, hc2651, h⟩ := bind_some_eq h
  refine VM_callS (As := [.ref (xb x + 0), vI (xs (i + 1)).toInt, vI (xs (i + 2)).toInt, .ref (xb x + 393)]) (rest := []) (s1 := [vI c2651.1]) X hA hKI (con_xLaw0_swap 393 K z hKI.ks hKI.2.2.2.1 g (xs (i + 1)).toInt (xs (i + 2)).toInt c2651 hc2651) gwL_swap_280 hdL_swap ⟨Nat.le_of_ble_eq_true rfl, Nat.le_of_ble_eq_true rfl⟩ rfl rfl (Nat.le_of_ble_eq_true rfl) dL_law_2651 rfl rfl (fun hKSc => ?_)
  have hKI := hKI.on hKSc
  refine VM_istore X dL_law_2654 (by decide) (L' := [(5, vI c2651.1), (4, vI (i : Int)), (0, .ref b0), (1, .ref (xb x + 0)), (2, .ref (xb x + 350)), (3, .ref (xb x + 393))]) rfl ?_
  refine VM_aload_n X dL_law_2656 4 rfl ?_
  refine VM_aload_n X dL_law_2657 2 rfl ?_
  refine VM_iload X dL_law_2658 1 rfl ?_
  refine VM_iconst X dL_law_2660 ?_
  refine VM_iadd X dL_law_2661 ?_
  refine VM_sld (i + 1) hX (by omega) ((w32_of (by omega) (by omega)).trans (by omega)) dL_law_2662 ?_
  refine VM_aload_n X dL_law_2663 2 rfl ?_
  refine VM_iload X dL_law_2664 1 rfl ?_
  refine VM_iconst X dL_law_2666 ?_
  refine VM_iadd X dL_law_2667 ?_
  refine VM_sld (i + 2) hX (by omega) ((w32_of (by omega) (by omega)).trans (by omega)) dL_law_2668 ?_
  obtain ⟨c2669, hc2669, h⟩ := bind_some_eq h
  refine VM_callM (N := 73) (T := TX10) (As := [vI (xs (i + 1)).toInt, vI (xs (i + 2)).toInt]) (rest := []) (s1 := [vI c2669.1]) X hA hKI (con_m_swap N gm (xs (i + 1)).toInt (xs (i + 2)).toInt c2669 hc2669) gwN_swap_282 hdN_swap ⟨Nat.le_of_ble_eq_true rfl, Nat.le_of_ble_eq_true rfl⟩ rfl rfl rfl (Nat.le_of_ble_eq_true rfl) dL_law_2669 rfl rfl ?_
  refine VM_istore X dL_law_2672 (by decide) (L' := [(6, vI c2669.1), (5, vI c2651.1), (4, vI (i : Int)), (0, .ref b0), (1, .ref (xb x + 0)), (2, .ref (xb x + 350)), (3, .ref (xb x + 393))]) rfl ?_
  refine VM_aload_n X dL_law_2674 5 rfl ?_
  obtain ⟨c2675, hc2675, h⟩ := bind_some_eq h
  refine VM_callM (N := 73) (T := TX10) (As := []) (rest := []) (s1 := [vI c2675]) X hA hKI (con_m_thrown c2669.2 c2675 hc2675) gwN_thrown_149 hdN_thrown ⟨Nat.le_of_ble_eq_true rfl, Nat.le_of_ble_eq_true rfl⟩ rfl rfl rfl (Nat.le_of_ble_eq_true rfl) dL_law_2675 rfl rfl ?_
  refine VM_iload X dL_law_2678 1 rfl ?_
  refine VM_icmp_eq (tgt := 2685) X dL_law_2680 (by decide) h (fun h => ?_) (fun h => by cases h)
  refine VM_iload X dL_law_2685 1 rfl ?_
  refine VM_if_ne (tgt := 2702) X dL_law_2687 (by decide) h (fun h => ?_) (fun h => ?_)
  · refine VM_goto (tgt := 2918) X dL_law_2702 (by decide) ?_
    have hr := Option.some.inj h
    subst hr
    exact VM_sub [2, 3, 4, 5, 6] rfl (k hKI)
  · refine VM_aload_n X dL_law_2690 6 rfl ?_
    refine VM_iconst X dL_law_2691 ?_
    refine VM_lald (o := 393) (n := 1) X hKI.2.2.2.1 (by decide) dL_law_2692 h (fun v2692 h => ?_)
    refine VM_iload X dL_law_2693 0 rfl ?_
    refine VM_i2l X dL_law_2695 ?_
    refine VM_lcmp X dL_law_2696 ?_
    refine VM_if_eq (tgt := 2702) X dL_law_2697 (by decide) h (fun h => ?_) (fun h => by cases h)
    refine VM_goto (tgt := 2918) X dL_law_2702 (by decide) ?_
    have hr := Option.some.inj h
    subst hr
    exact VM_sub [2, 3, 4, 5, 6] rfl (k hKI)
set_option maxHeartbeats 4000000 in
theorem case_42 {x : CT} {b0 Ls : Nat} {xs : Nat → Int32} (hX : XM_ x code 8 RX0 (some .boolean) b0 Ls xs) (N : Nat) (K : Nat → Nat) (z : Nat) (g gm : GS) (hKI : KI K z) (i : Nat) (hi : i + 7 ≤ Ls) (r : S3 × GS) (h : lc_42 N K z g gm (xs (i + 1)).toInt (xs (i + 2)).toInt (xs (i + 3)).toInt (xs (i + 4)).toInt (xs (i + 5)).toInt (xs (i + 6)).toInt = some r) (k : KI r.1.1 r.1.2.1 → VM x 8 r.1.1 r.1.2.1 r.1.2.2 r.2 2918 [(4, vI (i : Int)), (0, .ref b0), (1, .ref (xb x + 0)), (2, .ref (xb x + 350)), (3, .ref (xb x + 393))] []) : VM x 8 K z g gm 2705 [(4, vI (i : Int)), (0, .ref b0), (1, .ref (xb x + 0)), (2, .ref (xb x + 350)), (3, .ref (xb x + 393))] [] := by
  have X := hX.1
  have hA := hX.2.1
  have hLs := hX.2.2.2.2.2
  unfold lc_42 at h
  refine VM_aload_n X dL_law_2705 2 rfl ?_
  refine VM_aload_n X dL_law_2706 1 rfl ?_
  refine VM_iload X dL_law_2707 0 rfl ?_
  refine VM_iconst X dL_law_2709 ?_
  refine VM_iadd X dL_law_2710 ?_
  refine VM_sld (i + 1) hX (by omega) ((w32_of (by omega) (by omega)).trans (by omega)) dL_law_2711 ?_
  refine VM_aload_n X dL_law_2712 1 rfl ?_
  refine VM_iload X dL_law_2713 0 rfl ?_
  refine VM_iconst X dL_law_2715 ?_
  refine VM_iadd X dL_law_2716 ?_
  refine VM_sld (i + 2) hX (by omega) ((w32_of (by omega) (by omega)).trans (by omega)) dL_law_2717 ?_
  refine VM_aload_n X dL_law_2718 4 rfl ?_
  obtain ⟨c2719, hc2719, h⟩ := bind_some_eq h
  refine VM_callS (As := [.ref (xb x + 0), vI (xs (i + 1)).toInt, vI (xs (i + 2)).toInt, .ref (xb x + 393)]) (rest := []) (s1 := [vI c2719.1]) X hA hKI (con_xLaw0_hand 393 K z hKI.ks hKI.2.2.2.1 g (xs (i + 1)).toInt (xs (i + 2)).toInt c2719 hc2719) gwL_hand_283 hdL_hand ⟨Nat.le_of_ble_eq_true rfl, Nat.le_of_ble_eq_true rfl⟩ rfl rfl (Nat.le_of_ble_eq_true rfl) dL_law_2719 rfl rfl (fun hKSc => ?_)
  have hKI := hKI.on hKSc
  refine VM_istore X dL_law_2722 (by decide) (L' := [(5, vI c2719.1), (4, vI (i : Int)), (0, .ref b0), (1, .ref (xb x + 0)), (2, .ref (xb x + 350)), (3, .ref (xb x + 393))]) rfl ?_
  refine VM_aload_n X dL_law_2724 4 rfl ?_
  refine VM_aload_n X dL_law_2725 2 rfl ?_
  refine VM_iload X dL_law_2726 1 rfl ?_
  refine VM_iconst X dL_law_2728 ?_
  refine VM_iadd X dL_law_2729 ?_
  refine VM_sld (i + 1) hX (by omega) ((w32_of (by omega) (by omega)).trans (by omega)) dL_law_2730 ?_
  refine VM_aload_n X dL_law_2731 2 rfl ?_
  refine VM_iload X dL_law_2732 1 rfl ?_
  refine VM_iconst X dL_law_2734 ?_
  refine VM_iadd X dL_law_2735 ?_
  refine VM_sld (i + 2) hX (by omega) ((w32_of (by omega) (by omega)).trans (by omega)) dL_law_2736 ?_
  obtain ⟨c2737, hc2737, h⟩ := bind_some_eq h
  refine VM_callM (N := 73) (T := TX10) (As := [vI (xs (i + 1)).toInt, vI (xs (i + 2)).toInt]) (rest := []) (s1 := [vI c2737.1]) X hA hKI (con_m_hand N gm (xs (i + 1)).toInt (xs (i + 2)).toInt c2737 hc2737) gwN_hand_285 hdN_hand ⟨Nat.le_of_ble_eq_true rfl, Nat.le_of_ble_eq_true rfl⟩ rfl rfl rfl (Nat.le_of_ble_eq_true rfl) dL_law_2737 rfl rfl ?_
  refine VM_istore X dL_law_2740 (by decide) (L' := [(6, vI c2737.1), (5, vI c2719.1), (4, vI (i : Int)), (0, .ref b0), (1, .ref (xb x + 0)), (2, .ref (xb x + 350)), (3, .ref (xb x + 393))]) rfl ?_
  refine VM_aload_n X dL_law_2742 5 rfl ?_
  obtain ⟨c2743, hc2743, h⟩ := bind_some_eq h
  refine VM_callM (N := 73) (T := TX10) (As := []) (rest := []) (s1 := [vI c2743]) X hA hKI (con_m_thrown c2737.2 c2743 hc2743) gwN_thrown_149 hdN_thrown ⟨Nat.le_of_ble_eq_true rfl, Nat.le_of_ble_eq_true rfl⟩ rfl rfl rfl (Nat.le_of_ble_eq_true rfl) dL_law_2743 rfl rfl ?_
  refine VM_iload X dL_law_2746 1 rfl ?_
  refine VM_icmp_eq (tgt := 2753) X dL_law_2748 (by decide) h (fun h => ?_) (fun h => by cases h)
  refine VM_iload X dL_law_2753 1 rfl ?_
  refine VM_if_ne (tgt := 2770) X dL_law_2755 (by decide) h (fun h => ?_) (fun h => ?_)
  · refine VM_goto (tgt := 2918) X dL_law_2770 (by decide) ?_
    have hr := Option.some.inj h
    subst hr
    exact VM_sub [2, 3, 4, 5, 6] rfl (k hKI)
  · refine VM_aload_n X dL_law_2758 6 rfl ?_
    refine VM_iconst X dL_law_2759 ?_
    refine VM_lald (o := 393) (n := 1) X hKI.2.2.2.1 (by decide) dL_law_2760 h (fun v2760 h => ?_)
    refine VM_iload X dL_law_2761 0 rfl ?_
    refine VM_i2l X dL_law_2763 ?_
    refine VM_lcmp X dL_law_2764 ?_
    refine VM_if_eq (tgt := 2770) X dL_law_2765 (by decide) h (fun h => ?_) (fun h => by cases h)
    refine VM_goto (tgt := 2918) X dL_law_2770 (by decide) ?_
    have hr := Option.some.inj h
    subst hr
    exact VM_sub [2, 3, 4, 5, 6] rfl (k hKI)
set_option maxHeartbeats 4000000 in
theorem case_43 {x : CT} {b0 Ls : Nat} {xs : Nat → Int32} (hX : XM_ x code 8 RX0 (some .boolean) b0 Ls xs) (N : Nat) (K : Nat → Nat) (z : Nat) (g gm : GS) (hKI : KI K z) (i : Nat) (hi : i + 7 ≤ Ls) (r : S3 × GS) (h : lc_43 N K z g gm (xs (i + 1)).toInt (xs (i + 2)).toInt (xs (i + 3)).toInt (xs (i + 4)).toInt (xs (i + 5)).toInt (xs (i + 6)).toInt = some r) (k : KI r.1.1 r.1.2.1 → VM x 8 r.1.1 r.1.2.1 r.1.2.2 r.2 2918 [(4, vI (i : Int)), (0, .ref b0), (1, .ref (xb x + 0)), (2, .ref (xb x + 350)), (3, .ref (xb x + 393))] []) : VM x 8 K z g gm 2773 [(4, vI (i : Int)), (0, .ref b0), (1, .ref (xb x + 0)), (2, .ref (xb x + 350)), (3, .ref (xb x + 393))] [] := by
  have X := hX.1
  have hA := hX.2.1
  have hLs := hX.2.2.2.2.2
  unfold lc_43 at h
  refine VM_aload_n X dL_law_2773 2 rfl ?_
  refine VM_aload_n X dL_law_2774 1 rfl ?_
  refine VM_iload X dL_law_2775 0 rfl ?_
  refine VM_iconst X dL_law_2777 ?_
  refine VM_iadd X dL_law_2778 ?_
  refine VM_sld (i + 1) hX (by omega) ((w32_of (by omega) (by omega)).trans (by omega)) dL_law_2779 ?_
  refine VM_aload_n X dL_law_2780 4 rfl ?_
  obtain ⟨c2781, hc2781, h⟩ := bind_some_eq h
  refine VM_callS (As := [.ref (xb x + 0), vI (xs (i + 1)).toInt, .ref (xb x + 393)]) (rest := []) (s1 := [vI c2781.1]) X hA hKI (con_xLaw0_drop N 393 K z hKI.ks hKI.2.2.2.1 g (xs (i + 1)).toInt c2781 hc2781) gwL_drop_286 hdL_drop ⟨Nat.le_of_ble_eq_true rfl, Nat.le_of_ble_eq_true rfl⟩ rfl rfl (Nat.le_of_ble_eq_true rfl) dL_law_2781 rfl rfl (fun hKSc => ?_)
  have hKI := hKI.on hKSc
  refine VM_istore X dL_law_2784 (by decide) (L' := [(5, vI c2781.1), (4, vI (i : Int)), (0, .ref b0), (1, .ref (xb x + 0)), (2, .ref (xb x + 350)), (3, .ref (xb x + 393))]) rfl ?_
  refine VM_aload_n X dL_law_2786 4 rfl ?_
  refine VM_aload_n X dL_law_2787 2 rfl ?_
  refine VM_iload X dL_law_2788 1 rfl ?_
  refine VM_iconst X dL_law_2790 ?_
  refine VM_iadd X dL_law_2791 ?_
  refine VM_sld (i + 1) hX (by omega) ((w32_of (by omega) (by omega)).trans (by omega)) dL_law_2792 ?_
  obtain ⟨c2793, hc2793, h⟩ := bind_some_eq h
  refine VM_callM (N := 73) (T := TX10) (As := [vI (xs (i + 1)).toInt]) (rest := []) (s1 := [vI c2793.1]) X hA hKI (con_m_drop N gm (xs (i + 1)).toInt c2793 hc2793) gwN_drop_288 hdN_drop ⟨Nat.le_of_ble_eq_true rfl, Nat.le_of_ble_eq_true rfl⟩ rfl rfl rfl (Nat.le_of_ble_eq_true rfl) dL_law_2793 rfl rfl ?_
  refine VM_istore X dL_law_2796 (by decide) (L' := [(6, vI c2793.1), (5, vI c2781.1), (4, vI (i : Int)), (0, .ref b0), (1, .ref (xb x + 0)), (2, .ref (xb x + 350)), (3, .ref (xb x + 393))]) rfl ?_
  refine VM_aload_n X dL_law_2798 5 rfl ?_
  obtain ⟨c2799, hc2799, h⟩ := bind_some_eq h
  refine VM_callM (N := 73) (T := TX10) (As := []) (rest := []) (s1 := [vI c2799]) X hA hKI (con_m_thrown c2793.2 c2799 hc2799) gwN_thrown_149 hdN_thrown ⟨Nat.le_of_ble_eq_true rfl, Nat.le_of_ble_eq_true rfl⟩ rfl rfl rfl (Nat.le_of_ble_eq_true rfl) dL_law_2799 rfl rfl ?_
  refine VM_iload X dL_law_2802 1 rfl ?_
  refine VM_icmp_eq (tgt := 2809) X dL_law_2804 (by decide) h (fun h => ?_) (fun h => by cases h)
  refine VM_iload X dL_law_2809 1 rfl ?_
  refine VM_if_ne (tgt := 2826) X dL_law_2811 (by decide) h (fun h => ?_) (fun h => ?_)
  · refine VM_goto (tgt := 2918) X dL_law_2826 (by decide) ?_
    have hr := Option.some.inj h
    subst hr
    exact VM_sub [2, 3, 4, 5, 6] rfl (k hKI)
  · refine VM_aload_n X dL_law_2814 6 rfl ?_
    refine VM_iconst X dL_law_2815 ?_
    refine VM_lald (o := 393) (n := 1) X hKI.2.2.2.1 (by decide) dL_law_2816 h (fun v2816 h => ?_)
    refine VM_iload X dL_law_2817 0 rfl ?_
    refine VM_i2l X dL_law_2819 ?_
    refine VM_lcmp X dL_law_2820 ?_
    refine VM_if_eq (tgt := 2826) X dL_law_2821 (by decide) h (fun h => ?_) (fun h => by cases h)
    refine VM_goto (tgt := 2918) X dL_law_2826 (by decide) ?_
    have hr := Option.some.inj h
    subst hr
    exact VM_sub [2, 3, 4, 5, 6] rfl (k hKI)
set_option maxHeartbeats 4000000 in
theorem case_44 {x : CT} {b0 Ls : Nat} {xs : Nat → Int32} (hX : XM_ x code 8 RX0 (some .boolean) b0 Ls xs) (N : Nat) (K : Nat → Nat) (z : Nat) (g gm : GS) (hKI : KI K z) (i : Nat) (hi : i + 7 ≤ Ls) (r : S3 × GS) (h : lc_44 N K z g gm (xs (i + 1)).toInt (xs (i + 2)).toInt (xs (i + 3)).toInt (xs (i + 4)).toInt (xs (i + 5)).toInt (xs (i + 6)).toInt = some r) (k : KI r.1.1 r.1.2.1 → VM x 8 r.1.1 r.1.2.1 r.1.2.2 r.2 2918 [(4, vI (i : Int)), (0, .ref b0), (1, .ref (xb x + 0)), (2, .ref (xb x + 350)), (3, .ref (xb x + 393))] []) : VM x 8 K z g gm 2829 [(4, vI (i : Int)), (0, .ref b0), (1, .ref (xb x + 0)), (2, .ref (xb x + 350)), (3, .ref (xb x + 393))] [] := by
  have X := hX.1
  have hA := hX.2.1
  have hLs := hX.2.2.2.2.2
  unfold lc_44 at h
  refine VM_aload_n X dL_law_2829 2 rfl ?_
  obtain ⟨c2830, hc2830, h⟩ := bind_some_eq h
  refine VM_callX (ci := 0) (N := 18) (T := TX1) (As := []) (rest := []) (s1 := [vI c2830.1]) (o := 0) X hA hKI (con_x_undo K hKI.1.1 g c2830 hc2830) gwM_undo_289 hdM_undo ⟨Nat.le_of_ble_eq_true rfl, Nat.le_of_ble_eq_true rfl⟩ rfl (by decide) (hKI.1.1.at 0 rfl) rfl rfl (Nat.le_of_ble_eq_true rfl) dL_law_2830 rfl rfl ?_
  refine VM_aload_n X dL_law_2833 3 rfl ?_
  obtain ⟨c2834, hc2834, h⟩ := bind_some_eq h
  refine VM_callM (N := 73) (T := TX10) (As := []) (rest := [vI c2830.1]) (s1 := [vI c2834.1, vI c2830.1]) X hA hKI (con_m_undo N gm c2834 hc2834) gwN_undo_292 hdN_undo ⟨Nat.le_of_ble_eq_true rfl, Nat.le_of_ble_eq_true rfl⟩ rfl rfl rfl (Nat.le_of_ble_eq_true rfl) dL_law_2834 rfl rfl ?_
  refine VM_icmp_eq (tgt := 2918) X dL_law_2837 (by decide) h (fun h => ?_) (fun h => by cases h)
  have hr := Option.some.inj h
  subst hr
  exact VM_sub [0, 1, 2, 3, 4] rfl (k hKI)
set_option maxHeartbeats 4000000 in
theorem case_45 {x : CT} {b0 Ls : Nat} {xs : Nat → Int32} (hX : XM_ x code 8 RX0 (some .boolean) b0 Ls xs) (N : Nat) (K : Nat → Nat) (z : Nat) (g gm : GS) (hKI : KI K z) (i : Nat) (hi : i + 7 ≤ Ls) (r : S3 × GS) (h : lc_45 N K z g gm (xs (i + 1)).toInt (xs (i + 2)).toInt (xs (i + 3)).toInt (xs (i + 4)).toInt (xs (i + 5)).toInt (xs (i + 6)).toInt = some r) (k : KI r.1.1 r.1.2.1 → VM x 8 r.1.1 r.1.2.1 r.1.2.2 r.2 2918 [(4, vI (i : Int)), (0, .ref b0), (1, .ref (xb x + 0)), (2, .ref (xb x + 350)), (3, .ref (xb x + 393))] []) : VM x 8 K z g gm 2842 [(4, vI (i : Int)), (0, .ref b0), (1, .ref (xb x + 0)), (2, .ref (xb x + 350)), (3, .ref (xb x + 393))] [] := by
  have X := hX.1
  have hA := hX.2.1
  have hLs := hX.2.2.2.2.2
  unfold lc_45 at h
  refine VM_aload_n X dL_law_2842 2 rfl ?_
  obtain ⟨c2843, hc2843, h⟩ := bind_some_eq h
  refine VM_callX (ci := 0) (N := 18) (T := TX1) (As := []) (rest := []) (s1 := [vI c2843.1]) (o := 0) X hA hKI (con_x_image K hKI.1.1 N g c2843 hc2843) gwM_image_293 hdM_image ⟨Nat.le_of_ble_eq_true rfl, Nat.le_of_ble_eq_true rfl⟩ rfl (by decide) (hKI.1.1.at 0 rfl) rfl rfl (Nat.le_of_ble_eq_true rfl) dL_law_2843 rfl rfl ?_
  refine VM_aload_n X dL_law_2846 3 rfl ?_
  obtain ⟨c2847, hc2847, h⟩ := bind_some_eq h
  refine VM_callM (N := 73) (T := TX10) (As := []) (rest := [vI c2843.1]) (s1 := [vI c2847.1, vI c2843.1]) X hA hKI (con_m_image N gm c2847 hc2847) gwN_image_296 hdN_image ⟨Nat.le_of_ble_eq_true rfl, Nat.le_of_ble_eq_true rfl⟩ rfl rfl rfl (Nat.le_of_ble_eq_true rfl) dL_law_2847 rfl rfl ?_
  refine VM_icmp_eq (tgt := 2918) X dL_law_2850 (by decide) h (fun h => ?_) (fun h => by cases h)
  have hr := Option.some.inj h
  subst hr
  exact VM_sub [0, 1, 2, 3, 4] rfl (k hKI)
set_option maxHeartbeats 4000000 in
theorem case_46 {x : CT} {b0 Ls : Nat} {xs : Nat → Int32} (hX : XM_ x code 8 RX0 (some .boolean) b0 Ls xs) (N : Nat) (K : Nat → Nat) (z : Nat) (g gm : GS) (hKI : KI K z) (i : Nat) (hi : i + 7 ≤ Ls) (r : S3 × GS) (h : lc_46 N K z g gm (xs (i + 1)).toInt (xs (i + 2)).toInt (xs (i + 3)).toInt (xs (i + 4)).toInt (xs (i + 5)).toInt (xs (i + 6)).toInt = some r) (k : KI r.1.1 r.1.2.1 → VM x 8 r.1.1 r.1.2.1 r.1.2.2 r.2 2918 [(4, vI (i : Int)), (0, .ref b0), (1, .ref (xb x + 0)), (2, .ref (xb x + 350)), (3, .ref (xb x + 393))] []) : VM x 8 K z g gm 2855 [(4, vI (i : Int)), (0, .ref b0), (1, .ref (xb x + 0)), (2, .ref (xb x + 350)), (3, .ref (xb x + 393))] [] := by
  have X := hX.1
  have hA := hX.2.1
  have hLs := hX.2.2.2.2.2
  unfold lc_46 at h
  refine VM_aload_n X dL_law_2855 2 rfl ?_
  obtain ⟨c2856, hc2856, h⟩ := bind_some_eq h
  refine VM_callX (ci := 0) (N := 18) (T := TX1) (As := []) (rest := []) (s1 := [vI c2856.1]) (o := 0) X hA hKI (con_x_restore K hKI.1.1 N g c2856 hc2856) gwM_restore_297 hdM_restore ⟨Nat.le_of_ble_eq_true rfl, Nat.le_of_ble_eq_true rfl⟩ rfl (by decide) (hKI.1.1.at 0 rfl) rfl rfl (Nat.le_of_ble_eq_true rfl) dL_law_2856 rfl rfl ?_
  refine VM_aload_n X dL_law_2859 3 rfl ?_
  obtain ⟨c2860, hc2860, h⟩ := bind_some_eq h
  refine VM_callM (N := 73) (T := TX10) (As := []) (rest := [vI c2856.1]) (s1 := [vI c2860.1, vI c2856.1]) X hA hKI (con_m_restore N gm c2860 hc2860) gwN_restore_300 hdN_restore ⟨Nat.le_of_ble_eq_true rfl, Nat.le_of_ble_eq_true rfl⟩ rfl rfl rfl (Nat.le_of_ble_eq_true rfl) dL_law_2860 rfl rfl ?_
  refine VM_icmp_eq (tgt := 2918) X dL_law_2863 (by decide) h (fun h => ?_) (fun h => by cases h)
  have hr := Option.some.inj h
  subst hr
  exact VM_sub [0, 1, 2, 3, 4] rfl (k hKI)
set_option maxHeartbeats 4000000 in
theorem case_47 {x : CT} {b0 Ls : Nat} {xs : Nat → Int32} (hX : XM_ x code 8 RX0 (some .boolean) b0 Ls xs) (N : Nat) (K : Nat → Nat) (z : Nat) (g gm : GS) (hKI : KI K z) (i : Nat) (hi : i + 7 ≤ Ls) (r : S3 × GS) (h : lc_47 N K z g gm (xs (i + 1)).toInt (xs (i + 2)).toInt (xs (i + 3)).toInt (xs (i + 4)).toInt (xs (i + 5)).toInt (xs (i + 6)).toInt = some r) (k : KI r.1.1 r.1.2.1 → VM x 8 r.1.1 r.1.2.1 r.1.2.2 r.2 2918 [(4, vI (i : Int)), (0, .ref b0), (1, .ref (xb x + 0)), (2, .ref (xb x + 350)), (3, .ref (xb x + 393))] []) : VM x 8 K z g gm 2868 [(4, vI (i : Int)), (0, .ref b0), (1, .ref (xb x + 0)), (2, .ref (xb x + 350)), (3, .ref (xb x + 393))] [] := by
  have X := hX.1
  have hA := hX.2.1
  have hLs := hX.2.2.2.2.2
  unfold lc_47 at h
  refine VM_aload_n X dL_law_2868 2 rfl ?_
  refine VM_aload_n X dL_law_2869 1 rfl ?_
  refine VM_iload X dL_law_2870 0 rfl ?_
  refine VM_iconst X dL_law_2872 ?_
  refine VM_iadd X dL_law_2873 ?_
  refine VM_sld (i + 1) hX (by omega) ((w32_of (by omega) (by omega)).trans (by omega)) dL_law_2874 ?_
  obtain ⟨c2875, hc2875, h⟩ := bind_some_eq h
  refine VM_callX (ci := 0) (N := 18) (T := TX1) (As := [vI (xs (i + 1)).toInt]) (rest := []) (s1 := [vI c2875]) (o := 0) X hA hKI (con_x_status K hKI.1.1 g (xs (i + 1)).toInt c2875 hc2875) gwM_status_301 hdM_status ⟨Nat.le_of_ble_eq_true rfl, Nat.le_of_ble_eq_true rfl⟩ rfl (by decide) (hKI.1.1.at 0 rfl) rfl rfl (Nat.le_of_ble_eq_true rfl) dL_law_2875 rfl rfl ?_
  refine VM_aload_n X dL_law_2878 3 rfl ?_
  refine VM_aload_n X dL_law_2879 1 rfl ?_
  refine VM_iload X dL_law_2880 0 rfl ?_
  refine VM_iconst X dL_law_2882 ?_
  refine VM_iadd X dL_law_2883 ?_
  refine VM_sld (i + 1) hX (by omega) ((w32_of (by omega) (by omega)).trans (by omega)) dL_law_2884 ?_
  obtain ⟨c2885, hc2885, h⟩ := bind_some_eq h
  refine VM_callM (N := 73) (T := TX10) (As := [vI (xs (i + 1)).toInt]) (rest := [vI c2875]) (s1 := [vI c2885.1, vI c2875]) X hA hKI (con_m_status gm (xs (i + 1)).toInt c2885 hc2885) gwN_status_304 hdN_status ⟨Nat.le_of_ble_eq_true rfl, Nat.le_of_ble_eq_true rfl⟩ rfl rfl rfl (Nat.le_of_ble_eq_true rfl) dL_law_2885 rfl rfl ?_
  refine VM_icmp_eq (tgt := 2918) X dL_law_2888 (by decide) h (fun h => ?_) (fun h => by cases h)
  have hr := Option.some.inj h
  subst hr
  exact VM_sub [0, 1, 2, 3, 4] rfl (k hKI)
set_option maxHeartbeats 4000000 in
theorem case_48 {x : CT} {b0 Ls : Nat} {xs : Nat → Int32} (hX : XM_ x code 8 RX0 (some .boolean) b0 Ls xs) (N : Nat) (K : Nat → Nat) (z : Nat) (g gm : GS) (hKI : KI K z) (i : Nat) (hi : i + 7 ≤ Ls) (r : S3 × GS) (h : lc_48 N K z g gm (xs (i + 1)).toInt (xs (i + 2)).toInt (xs (i + 3)).toInt (xs (i + 4)).toInt (xs (i + 5)).toInt (xs (i + 6)).toInt = some r) (k : KI r.1.1 r.1.2.1 → VM x 8 r.1.1 r.1.2.1 r.1.2.2 r.2 2918 [(4, vI (i : Int)), (0, .ref b0), (1, .ref (xb x + 0)), (2, .ref (xb x + 350)), (3, .ref (xb x + 393))] []) : VM x 8 K z g gm 2893 [(4, vI (i : Int)), (0, .ref b0), (1, .ref (xb x + 0)), (2, .ref (xb x + 350)), (3, .ref (xb x + 393))] [] := by
  have X := hX.1
  have hA := hX.2.1
  have hLs := hX.2.2.2.2.2
  unfold lc_48 at h
  refine VM_aload_n X dL_law_2893 2 rfl ?_
  refine VM_aload_n X dL_law_2894 1 rfl ?_
  refine VM_iload X dL_law_2895 0 rfl ?_
  refine VM_iconst X dL_law_2897 ?_
  refine VM_iadd X dL_law_2898 ?_
  refine VM_sld (i + 1) hX (by omega) ((w32_of (by omega) (by omega)).trans (by omega)) dL_law_2899 ?_
  obtain ⟨c2900, hc2900, h⟩ := bind_some_eq h
  refine VM_callX (ci := 0) (N := 18) (T := TX1) (As := [vI (xs (i + 1)).toInt]) (rest := []) (s1 := [vI c2900]) (o := 0) X hA hKI (con_x_count K hKI.1.1 g (xs (i + 1)).toInt c2900 hc2900) gwM_count_305 hdM_count ⟨Nat.le_of_ble_eq_true rfl, Nat.le_of_ble_eq_true rfl⟩ rfl (by decide) (hKI.1.1.at 0 rfl) rfl rfl (Nat.le_of_ble_eq_true rfl) dL_law_2900 rfl rfl ?_
  refine VM_aload_n X dL_law_2903 3 rfl ?_
  refine VM_aload_n X dL_law_2904 1 rfl ?_
  refine VM_iload X dL_law_2905 0 rfl ?_
  refine VM_iconst X dL_law_2907 ?_
  refine VM_iadd X dL_law_2908 ?_
  refine VM_sld (i + 1) hX (by omega) ((w32_of (by omega) (by omega)).trans (by omega)) dL_law_2909 ?_
  obtain ⟨c2910, hc2910, h⟩ := bind_some_eq h
  refine VM_callM (N := 73) (T := TX10) (As := [vI (xs (i + 1)).toInt]) (rest := [vI c2900]) (s1 := [vI c2910.1, vI c2900]) X hA hKI (con_m_count gm (xs (i + 1)).toInt c2910 hc2910) gwN_count_308 hdN_count ⟨Nat.le_of_ble_eq_true rfl, Nat.le_of_ble_eq_true rfl⟩ rfl rfl rfl (Nat.le_of_ble_eq_true rfl) dL_law_2910 rfl rfl ?_
  refine VM_icmp_eq (tgt := 2918) X dL_law_2913 (by decide) h (fun h => ?_) (fun h => by cases h)
  have hr := Option.some.inj h
  subst hr
  exact VM_sub [0, 1, 2, 3, 4] rfl (k hKI)
set_option maxHeartbeats 4000000 in
theorem law_switch {x : CT} {b0 Ls : Nat} {xs : Nat → Int32} (hX : XM_ x code 8 RX0 (some .boolean) b0 Ls xs) (N : Nat) (K : Nat → Nat) (z : Nat) (g gm : GS) (hKI : KI K z) (i : Nat) (hi : i + 7 ≤ Ls) (v : Int) (r : S3 × GS) (h : lcI v N K z g gm (xs (i + 1)).toInt (xs (i + 2)).toInt (xs (i + 3)).toInt (xs (i + 4)).toInt (xs (i + 5)).toInt (xs (i + 6)).toInt = some r) (k : KI r.1.1 r.1.2.1 → VM x 8 r.1.1 r.1.2.1 r.1.2.2 r.2 2918 [(4, vI (i : Int)), (0, .ref b0), (1, .ref (xb x + 0)), (2, .ref (xb x + 350)), (3, .ref (xb x + 393))] []) : VM x 8 K z g gm 40 [(4, vI (i : Int)), (0, .ref b0), (1, .ref (xb x + 0)), (2, .ref (xb x + 350)), (3, .ref (xb x + 393))] [vI v] := by
  have X := hX.1
  unfold lcI at h
  by_cases e0 : w32 v = 0
  · rw [if_pos e0] at h
    exact VM_tswIn (tgt := 252) 0 X dL_law_40 e0 (by decide) (by decide) rfl (by decide) (case_0 hX N K z g gm hKI i hi r h k)
  rw [if_neg e0] at h
  by_cases e1 : w32 v = 1
  · rw [if_pos e1] at h
    exact VM_tswIn (tgt := 325) 1 X dL_law_40 e1 (by decide) (by decide) rfl (by decide) (case_1 hX N K z g gm hKI i hi r h k)
  rw [if_neg e1] at h
  by_cases e2 : w32 v = 2
  · rw [if_pos e2] at h
    exact VM_tswIn (tgt := 381) 2 X dL_law_40 e2 (by decide) (by decide) rfl (by decide) (case_2 hX N K z g gm hKI i hi r h k)
  rw [if_neg e2] at h
  by_cases e3 : w32 v = 3
  · rw [if_pos e3] at h
    exact VM_tswIn (tgt := 437) 3 X dL_law_40 e3 (by decide) (by decide) rfl (by decide) (case_3 hX N K z g gm hKI i hi r h k)
  rw [if_neg e3] at h
  by_cases e4 : w32 v = 4
  · rw [if_pos e4] at h
    exact VM_tswIn (tgt := 493) 4 X dL_law_40 e4 (by decide) (by decide) rfl (by decide) (case_4 hX N K z g gm hKI i hi r h k)
  rw [if_neg e4] at h
  by_cases e5 : w32 v = 5
  · rw [if_pos e5] at h
    exact VM_tswIn (tgt := 549) 5 X dL_law_40 e5 (by decide) (by decide) rfl (by decide) (case_5 hX N K z g gm hKI i hi r h k)
  rw [if_neg e5] at h
  by_cases e6 : w32 v = 6
  · rw [if_pos e6] at h
    exact VM_tswIn (tgt := 562) 6 X dL_law_40 e6 (by decide) (by decide) rfl (by decide) (case_6 hX N K z g gm hKI i hi r h k)
  rw [if_neg e6] at h
  by_cases e7 : w32 v = 7
  · rw [if_pos e7] at h
    exact VM_tswIn (tgt := 618) 7 X dL_law_40 e7 (by decide) (by decide) rfl (by decide) (case_7 hX N K z g gm hKI i hi r h k)
  rw [if_neg e7] at h
  by_cases e8 : w32 v = 8
  · rw [if_pos e8] at h
    exact VM_tswIn (tgt := 686) 8 X dL_law_40 e8 (by decide) (by decide) rfl (by decide) (case_8 hX N K z g gm hKI i hi r h k)
  rw [if_neg e8] at h
  by_cases e9 : w32 v = 9
  · rw [if_pos e9] at h
    exact VM_tswIn (tgt := 742) 9 X dL_law_40 e9 (by decide) (by decide) rfl (by decide) (case_9 hX N K z g gm hKI i hi r h k)
  rw [if_neg e9] at h
  by_cases e10 : w32 v = 10
  · rw [if_pos e10] at h
    exact VM_tswIn (tgt := 798) 10 X dL_law_40 e10 (by decide) (by decide) rfl (by decide) (case_10 hX N K z g gm hKI i hi r h k)
  rw [if_neg e10] at h
  by_cases e11 : w32 v = 11
  · rw [if_pos e11] at h
    exact VM_tswIn (tgt := 861) 11 X dL_law_40 e11 (by decide) (by decide) rfl (by decide) (case_11 hX N K z g gm hKI i hi r h k)
  rw [if_neg e11] at h
  by_cases e12 : w32 v = 12
  · rw [if_pos e12] at h
    exact VM_tswIn (tgt := 979) 12 X dL_law_40 e12 (by decide) (by decide) rfl (by decide) (case_12 hX N K z g gm hKI i hi r h k)
  rw [if_neg e12] at h
  by_cases e13 : w32 v = 13
  · rw [if_pos e13] at h
    exact VM_tswIn (tgt := 1047) 13 X dL_law_40 e13 (by decide) (by decide) rfl (by decide) (case_13 hX N K z g gm hKI i hi r h k)
  rw [if_neg e13] at h
  by_cases e14 : w32 v = 14
  · rw [if_pos e14] at h
    exact VM_tswIn (tgt := 1060) 14 X dL_law_40 e14 (by decide) (by decide) rfl (by decide) (case_14 hX N K z g gm hKI i hi r h k)
  rw [if_neg e14] at h
  by_cases e15 : w32 v = 15
  · rw [if_pos e15] at h
    exact VM_tswIn (tgt := 1116) 15 X dL_law_40 e15 (by decide) (by decide) rfl (by decide) (case_15 hX N K z g gm hKI i hi r h k)
  rw [if_neg e15] at h
  by_cases e16 : w32 v = 16
  · rw [if_pos e16] at h
    exact VM_tswIn (tgt := 1172) 16 X dL_law_40 e16 (by decide) (by decide) rfl (by decide) (case_16 hX N K z g gm hKI i hi r h k)
  rw [if_neg e16] at h
  by_cases e17 : w32 v = 17
  · rw [if_pos e17] at h
    exact VM_tswIn (tgt := 1185) 17 X dL_law_40 e17 (by decide) (by decide) rfl (by decide) (case_17 hX N K z g gm hKI i hi r h k)
  rw [if_neg e17] at h
  by_cases e18 : w32 v = 18
  · rw [if_pos e18] at h
    exact VM_tswIn (tgt := 1241) 18 X dL_law_40 e18 (by decide) (by decide) rfl (by decide) (case_18 hX N K z g gm hKI i hi r h k)
  rw [if_neg e18] at h
  by_cases e19 : w32 v = 19
  · rw [if_pos e19] at h
    exact VM_tswIn (tgt := 1254) 19 X dL_law_40 e19 (by decide) (by decide) rfl (by decide) (case_19 hX N K z g gm hKI i hi r h k)
  rw [if_neg e19] at h
  by_cases e20 : w32 v = 20
  · rw [if_pos e20] at h
    exact VM_tswIn (tgt := 1310) 20 X dL_law_40 e20 (by decide) (by decide) rfl (by decide) (case_20 hX N K z g gm hKI i hi r h k)
  rw [if_neg e20] at h
  by_cases e21 : w32 v = 21
  · rw [if_pos e21] at h
    exact VM_tswIn (tgt := 1366) 21 X dL_law_40 e21 (by decide) (by decide) rfl (by decide) (case_21 hX N K z g gm hKI i hi r h k)
  rw [if_neg e21] at h
  by_cases e22 : w32 v = 22
  · rw [if_pos e22] at h
    exact VM_tswIn (tgt := 1422) 22 X dL_law_40 e22 (by decide) (by decide) rfl (by decide) (case_22 hX N K z g gm hKI i hi r h k)
  rw [if_neg e22] at h
  by_cases e23 : w32 v = 23
  · rw [if_pos e23] at h
    exact VM_tswIn (tgt := 1478) 23 X dL_law_40 e23 (by decide) (by decide) rfl (by decide) (case_23 hX N K z g gm hKI i hi r h k)
  rw [if_neg e23] at h
  by_cases e24 : w32 v = 24
  · rw [if_pos e24] at h
    exact VM_tswIn (tgt := 1558) 24 X dL_law_40 e24 (by decide) (by decide) rfl (by decide) (case_24 hX N K z g gm hKI i hi r h k)
  rw [if_neg e24] at h
  by_cases e25 : w32 v = 25
  · rw [if_pos e25] at h
    exact VM_tswIn (tgt := 1638) 25 X dL_law_40 e25 (by decide) (by decide) rfl (by decide) (case_25 hX N K z g gm hKI i hi r h k)
  rw [if_neg e25] at h
  by_cases e26 : w32 v = 26
  · rw [if_pos e26] at h
    exact VM_tswIn (tgt := 1730) 26 X dL_law_40 e26 (by decide) (by decide) rfl (by decide) (case_26 hX N K z g gm hKI i hi r h k)
  rw [if_neg e26] at h
  by_cases e27 : w32 v = 27
  · rw [if_pos e27] at h
    exact VM_tswIn (tgt := 1821) 27 X dL_law_40 e27 (by decide) (by decide) rfl (by decide) (case_27 hX N K z g gm hKI i hi r h k)
  rw [if_neg e27] at h
  by_cases e28 : w32 v = 28
  · rw [if_pos e28] at h
    exact VM_tswIn (tgt := 1889) 28 X dL_law_40 e28 (by decide) (by decide) rfl (by decide) (case_28 hX N K z g gm hKI i hi r h k)
  rw [if_neg e28] at h
  by_cases e29 : w32 v = 29
  · rw [if_pos e29] at h
    exact VM_tswIn (tgt := 1945) 29 X dL_law_40 e29 (by decide) (by decide) rfl (by decide) (case_29 hX N K z g gm hKI i hi r h k)
  rw [if_neg e29] at h
  by_cases e30 : w32 v = 30
  · rw [if_pos e30] at h
    exact VM_tswIn (tgt := 2036) 30 X dL_law_40 e30 (by decide) (by decide) rfl (by decide) (case_30 hX N K z g gm hKI i hi r h k)
  rw [if_neg e30] at h
  by_cases e31 : w32 v = 31
  · rw [if_pos e31] at h
    exact VM_tswIn (tgt := 2104) 31 X dL_law_40 e31 (by decide) (by decide) rfl (by decide) (case_31 hX N K z g gm hKI i hi r h k)
  rw [if_neg e31] at h
  by_cases e32 : w32 v = 32
  · rw [if_pos e32] at h
    exact VM_tswIn (tgt := 2172) 32 X dL_law_40 e32 (by decide) (by decide) rfl (by decide) (case_32 hX N K z g gm hKI i hi r h k)
  rw [if_neg e32] at h
  by_cases e33 : w32 v = 33
  · rw [if_pos e33] at h
    exact VM_tswIn (tgt := 2228) 33 X dL_law_40 e33 (by decide) (by decide) rfl (by decide) (case_33 hX N K z g gm hKI i hi r h k)
  rw [if_neg e33] at h
  by_cases e34 : w32 v = 34
  · rw [if_pos e34] at h
    exact VM_tswIn (tgt := 2284) 34 X dL_law_40 e34 (by decide) (by decide) rfl (by decide) (case_34 hX N K z g gm hKI i hi r h k)
  rw [if_neg e34] at h
  by_cases e35 : w32 v = 35
  · rw [if_pos e35] at h
    exact VM_tswIn (tgt := 2340) 35 X dL_law_40 e35 (by decide) (by decide) rfl (by decide) (case_35 hX N K z g gm hKI i hi r h k)
  rw [if_neg e35] at h
  by_cases e36 : w32 v = 36
  · rw [if_pos e36] at h
    exact VM_tswIn (tgt := 2396) 36 X dL_law_40 e36 (by decide) (by decide) rfl (by decide) (case_36 hX N K z g gm hKI i hi r h k)
  rw [if_neg e36] at h
  by_cases e37 : w32 v = 37
  · rw [if_pos e37] at h
    exact VM_tswIn (tgt := 2463) 37 X dL_law_40 e37 (by decide) (by decide) rfl (by decide) (case_37 hX N K z g gm hKI i hi r h k)
  rw [if_neg e37] at h
  by_cases e38 : w32 v = 38
  · rw [if_pos e38] at h
    exact VM_tswIn (tgt := 2476) 38 X dL_law_40 e38 (by decide) (by decide) rfl (by decide) (case_38 hX N K z g gm hKI i hi r h k)
  rw [if_neg e38] at h
  by_cases e39 : w32 v = 39
  · rw [if_pos e39] at h
    exact VM_tswIn (tgt := 2489) 39 X dL_law_40 e39 (by decide) (by decide) rfl (by decide) (case_39 hX N K z g gm hKI i hi r h k)
  rw [if_neg e39] at h
  by_cases e40 : w32 v = 40
  · rw [if_pos e40] at h
    exact VM_tswIn (tgt := 2557) 40 X dL_law_40 e40 (by decide) (by decide) rfl (by decide) (case_40 hX N K z g gm hKI i hi r h k)
  rw [if_neg e40] at h
  by_cases e41 : w32 v = 41
  · rw [if_pos e41] at h
    exact VM_tswIn (tgt := 2637) 41 X dL_law_40 e41 (by decide) (by decide) rfl (by decide) (case_41 hX N K z g gm hKI i hi r h k)
  rw [if_neg e41] at h
  by_cases e42 : w32 v = 42
  · rw [if_pos e42] at h
    exact VM_tswIn (tgt := 2705) 42 X dL_law_40 e42 (by decide) (by decide) rfl (by decide) (case_42 hX N K z g gm hKI i hi r h k)
  rw [if_neg e42] at h
  by_cases e43 : w32 v = 43
  · rw [if_pos e43] at h
    exact VM_tswIn (tgt := 2773) 43 X dL_law_40 e43 (by decide) (by decide) rfl (by decide) (case_43 hX N K z g gm hKI i hi r h k)
  rw [if_neg e43] at h
  by_cases e44 : w32 v = 44
  · rw [if_pos e44] at h
    exact VM_tswIn (tgt := 2829) 44 X dL_law_40 e44 (by decide) (by decide) rfl (by decide) (case_44 hX N K z g gm hKI i hi r h k)
  rw [if_neg e44] at h
  by_cases e45 : w32 v = 45
  · rw [if_pos e45] at h
    exact VM_tswIn (tgt := 2842) 45 X dL_law_40 e45 (by decide) (by decide) rfl (by decide) (case_45 hX N K z g gm hKI i hi r h k)
  rw [if_neg e45] at h
  by_cases e46 : w32 v = 46
  · rw [if_pos e46] at h
    exact VM_tswIn (tgt := 2855) 46 X dL_law_40 e46 (by decide) (by decide) rfl (by decide) (case_46 hX N K z g gm hKI i hi r h k)
  rw [if_neg e46] at h
  by_cases e47 : w32 v = 47
  · rw [if_pos e47] at h
    exact VM_tswIn (tgt := 2868) 47 X dL_law_40 e47 (by decide) (by decide) rfl (by decide) (case_47 hX N K z g gm hKI i hi r h k)
  rw [if_neg e47] at h
  by_cases e48 : w32 v = 48
  · rw [if_pos e48] at h
    exact VM_tswIn (tgt := 2893) 48 X dL_law_40 e48 (by decide) (by decide) rfl (by decide) (case_48 hX N K z g gm hKI i hi r h k)
  rw [if_neg e48] at h
  have hr := Option.some.inj h
  subst hr
  exact VM_tswOut (tgt := 2918) X dL_law_40 (by omega) (by decide) (k hKI)
