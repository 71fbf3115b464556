set_option maxRecDepth 100000
theorem q1097 : (Jvm.Cond.methodLink "RainWheelLaw" (18 : Nat) ({ cls := "RainWheel", name := "plan", desc := "(I)I" } : Jvm.MethodName)) ∈ lw_all := lw_g (lw_at lw_m5 42 rfl) rfl
theorem q1115 : (Jvm.Cond.methodLink "RainWheelLaw" (21 : Nat) ({ cls := "RainWheel", name := "book", desc := "(I)I" } : Jvm.MethodName)) ∈ lw_all := lw_g (lw_at lw_m5 60 rfl) rfl
theorem q1128 : (Jvm.Cond.methodLink "RainWheelLaw" (24 : Nat) ({ cls := "RainWheel", name := "told", desc := "(I)I" } : Jvm.MethodName)) ∈ lw_all := lw_g (lw_at lw_m5 73 rfl) rfl
theorem q1135 : (Jvm.Cond.classLink "RainWheelLaw" (31 : Nat) "java/util/NoSuchElementException") ∈ lw_all := lw_g (lw_at lw_m5 80 rfl) rfl
theorem q1136 : (Jvm.Cond.methodLink "RainWheelLaw" (27 : Nat) ({ cls := "RainWheel", name := "deed", desc := "(II)I" } : Jvm.MethodName)) ∈ lw_all := lw_g (lw_at lw_m5 81 rfl) rfl
theorem q1166 : (Jvm.Cond.methodLink "RainWheelLaw" (33 : Nat) ({ cls := "RainWheel", name := "strong", desc := "(I)I" } : Jvm.MethodName)) ∈ lw_all := lw_g (lw_at lw_m5 111 rfl) rfl
theorem q1177 : (Jvm.Cond.methodLink "RainWheelLaw" (36 : Nat) ({ cls := "RainWheel", name := "bears", desc := "(I)I" } : Jvm.MethodName)) ∈ lw_all := lw_g (lw_at lw_m5 122 rfl) rfl
theorem q1184 : (Jvm.Cond.methodLink "RainWheelLaw" (39 : Nat) ({ cls := "RainWheel", name := "rains", desc := "(I)Z" } : Jvm.MethodName)) ∈ lw_all := lw_g (lw_at lw_m5 129 rfl) rfl
theorem q1192 : (Jvm.Cond.methodLink "RainWheelLaw" (43 : Nat) ({ cls := "RainWheel", name := "would", desc := "(IIIIII)I" } : Jvm.MethodName)) ∈ lw_all := lw_g (lw_at lw_m5 137 rfl) rfl
theorem q1202 : (Jvm.Cond.methodLink "RainWheelLaw" (47 : Nat) ({ cls := "RainWheel", name := "line", desc := "(II)I" } : Jvm.MethodName)) ∈ lw_all := lw_g (lw_at lw_m5 147 rfl) rfl
theorem q1213 : (Jvm.Cond.methodLink "RainWheelLaw" (50 : Nat) ({ cls := "RainWheel", name := "wet", desc := "(I)I" } : Jvm.MethodName)) ∈ lw_all := lw_g (lw_at lw_m5 158 rfl) rfl
theorem q1220 : (Jvm.Cond.methodLink "RainWheelLaw" (53 : Nat) ({ cls := "RainWheel", name := "idle", desc := "(I)I" } : Jvm.MethodName)) ∈ lw_all := lw_g (lw_at lw_m5 165 rfl) rfl
theorem q1227 : (Jvm.Cond.methodLink "RainWheelLaw" (56 : Nat) ({ cls := "RainWheel", name := "slack", desc := "(I)I" } : Jvm.MethodName)) ∈ lw_all := lw_g (lw_at lw_m5 172 rfl) rfl
theorem q1234 : (Jvm.Cond.methodLink "RainWheelLaw" (59 : Nat) ({ cls := "RainWheel", name := "ahead", desc := "(I)I" } : Jvm.MethodName)) ∈ lw_all := lw_g (lw_at lw_m5 179 rfl) rfl
theorem q1245 : (Jvm.Cond.methodLink "RainWheelLaw" (62 : Nat) ({ cls := "RainWheel", name := "chain", desc := "(I)I" } : Jvm.MethodName)) ∈ lw_all := lw_g (lw_at lw_m5 190 rfl) rfl
theorem q1258 : (Jvm.Cond.classLink "RainWheelLaw" (68 : Nat) "java/lang/IllegalStateException") ∈ lw_all := lw_g (lw_at lw_m5 203 rfl) rfl
theorem q1259 : (Jvm.Cond.methodLink "RainWheelLaw" (65 : Nat) ({ cls := "RainWheel", name := "soonest", desc := "(I)I" } : Jvm.MethodName)) ∈ lw_all := lw_g (lw_at lw_m5 204 rfl) rfl
theorem q1305 : (Jvm.Cond.methodLink "RainWheelLaw" (70 : Nat) ({ cls := "RainWheel", name := "first", desc := "(I)I" } : Jvm.MethodName)) ∈ lw_all := lw_g (lw_at lw_m6 10 rfl) rfl
theorem q1312 : (Jvm.Cond.methodLink "RainWheelLaw" (73 : Nat) ({ cls := "RainWheel", name := "sinks", desc := "(III)I" } : Jvm.MethodName)) ∈ lw_all := lw_g (lw_at lw_m6 17 rfl) rfl
theorem q1327 : (Jvm.Cond.methodLink "RainWheelLaw" (77 : Nat) ({ cls := "RainWheel", name := "under", desc := "(III)I" } : Jvm.MethodName)) ∈ lw_all := lw_g (lw_at lw_m6 32 rfl) rfl
theorem q1335 : (Jvm.Cond.methodLink "RainWheelLaw" (80 : Nat) ({ cls := "RainWheel", name := "push", desc := "(IIII)I" } : Jvm.MethodName)) ∈ lw_all := lw_g (lw_at lw_m6 40 rfl) rfl
theorem q1345 : (Jvm.Cond.methodLink "RainWheelLaw" (84 : Nat) ({ cls := "RainWheel", name := "tries", desc := "(IIII)J" } : Jvm.MethodName)) ∈ lw_all := lw_g (lw_at lw_m6 50 rfl) rfl
theorem q1366 : (Jvm.Cond.methodLink "RainWheelLaw" (88 : Nat) ({ cls := "RainWheel", name := "half", desc := "(II)I" } : Jvm.MethodName)) ∈ lw_all := lw_g (lw_at lw_m6 71 rfl) rfl
theorem q1374 : (Jvm.Cond.methodLink "RainWheelLaw" (91 : Nat) ({ cls := "RainWheel", name := "easiest", desc := "(I)I" } : Jvm.MethodName)) ∈ lw_all := lw_g (lw_at lw_m6 79 rfl) rfl
theorem q1381 : (Jvm.Cond.methodLink "RainWheelLaw" (94 : Nat) ({ cls := "RainWheel", name := "waits", desc := "(IIII)J" } : Jvm.MethodName)) ∈ lw_all := lw_g (lw_at lw_m6 86 rfl) rfl
theorem q1396 : (Jvm.Cond.methodLink "RainWheelLaw" (97 : Nat) ({ cls := "RainWheel", name := "await", desc := "(II)I" } : Jvm.MethodName)) ∈ lw_all := lw_g (lw_at lw_m6 101 rfl) rfl
theorem q1403 : (Jvm.Cond.methodLink "RainWheelLaw" (100 : Nat) ({ cls := "RainWheel", name := "cross", desc := "(II)I" } : Jvm.MethodName)) ∈ lw_all := lw_g (lw_at lw_m6 108 rfl) rfl
theorem q1423 : (Jvm.Cond.methodLink "RainWheelLaw" (103 : Nat) ({ cls := "RainWheel", name := "crooked", desc := "(I)I" } : Jvm.MethodName)) ∈ lw_all := lw_g (lw_at lw_m6 128 rfl) rfl
theorem q1431 : (Jvm.Cond.methodLink "RainWheelLaw" (106 : Nat) ({ cls := "RainWheel", name := "share", desc := "(I)I" } : Jvm.MethodName)) ∈ lw_all := lw_g (lw_at lw_m6 136 rfl) rfl
theorem q1438 : (Jvm.Cond.methodLink "RainWheelLaw" (109 : Nat) ({ cls := "RainWheel", name := "drive", desc := "(I)I" } : Jvm.MethodName)) ∈ lw_all := lw_g (lw_at lw_m6 143 rfl) rfl
theorem q1456 : (Jvm.Cond.methodLink "RainWheelLaw" (112 : Nat) ({ cls := "RainWheel", name := "pumps", desc := "(I)I" } : Jvm.MethodName)) ∈ lw_all := lw_g (lw_at lw_m6 161 rfl) rfl
theorem q1463 : (Jvm.Cond.methodLink "RainWheelLaw" (115 : Nat) ({ cls := "RainWheel", name := "odds", desc := "(II)J" } : Jvm.MethodName)) ∈ lw_all := lw_g (lw_at lw_m6 168 rfl) rfl
theorem q1470 : (Jvm.Cond.methodLink "RainWheelLaw" (119 : Nat) ({ cls := "RainWheel", name := "evening", desc := "(II)I" } : Jvm.MethodName)) ∈ lw_all := lw_g (lw_at lw_m6 175 rfl) rfl
theorem q1486 : (Jvm.Cond.methodLink "RainWheelLaw" (122 : Nat) ({ cls := "RainWheel", name := "evenings", desc := "(III)I" } : Jvm.MethodName)) ∈ lw_all := lw_g (lw_at lw_m6 191 rfl) rfl
theorem q1493 : (Jvm.Cond.methodLink "RainWheelLaw" (125 : Nat) ({ cls := "RainWheel", name := "swap", desc := "(II)I" } : Jvm.MethodName)) ∈ lw_all := lw_g (lw_at lw_m6 198 rfl) rfl
theorem q1511 : (Jvm.Cond.methodLink "RainWheelLaw" (128 : Nat) ({ cls := "RainWheel", name := "hand", desc := "(II)I" } : Jvm.MethodName)) ∈ lw_all := lw_g (lw_at lw_m6 216 rfl) rfl
theorem q1518 : (Jvm.Cond.methodLink "RainWheelLaw" (131 : Nat) ({ cls := "RainWheel", name := "drop", desc := "(I)I" } : Jvm.MethodName)) ∈ lw_all := lw_g (lw_at lw_m6 223 rfl) rfl
theorem q709 : (Jvm.Cond.classLink "RainWheelLaw" (13 : Nat) "java/lang/IllegalArgumentException") ∈ lw_all := lw_g (lw_at lw_m3 134 rfl) rfl
theorem q710 : (Jvm.Cond.methodLink "RainWheelLaw" (7 : Nat) ({ cls := "RainWheel", name := "road", desc := "(I)I" } : Jvm.MethodName)) ∈ lw_all := lw_g (lw_at lw_m3 135 rfl) rfl
theorem q993 : (Jvm.Cond.methodLink "RainWheelLaw" (15 : Nat) ({ cls := "RainWheel", name := "law", desc := "(I)I" } : Jvm.MethodName)) ∈ lw_all := lw_g (lw_at lw_m4 178 rfl) rfl
theorem hdV_X1_road : yX1_road.cls = RX1 ∧ yX1_road.cls ≠ "java/lang/invoke/MethodHandle" ∧ yX1_road.cls ≠ "java/lang/invoke/VarHandle" ∧ (parseMethodDescriptor yX1_road.desc).map (fun d => d.parameters.length) = some 1 := by decide +kernel
theorem gwX0_road_7 : GoodIn lw_all (wsV RX0 7 RX1 yX1_road (wsW_ yX1_road cX1_road 3 (some .int) [(10, 29, 32, 118)])) := lw_VW q710 q711 q712 q96 q713
theorem hdV_X1_law : yX1_law.cls = RX1 ∧ yX1_law.cls ≠ "java/lang/invoke/MethodHandle" ∧ yX1_law.cls ≠ "java/lang/invoke/VarHandle" ∧ (parseMethodDescriptor yX1_law.desc).map (fun d => d.parameters.length) = some 1 := by decide +kernel
theorem gwX0_law_15 : GoodIn lw_all (wsV RX0 15 RX1 yX1_law (wsW_ yX1_law cX1_law 3 (some .int) [(16, 38, 41, 118)])) := lw_VW q993 q994 q995 q96 q996
theorem hdV_X1_plan : yX1_plan.cls = RX1 ∧ yX1_plan.cls ≠ "java/lang/invoke/MethodHandle" ∧ yX1_plan.cls ≠ "java/lang/invoke/VarHandle" ∧ (parseMethodDescriptor yX1_plan.desc).map (fun d => d.parameters.length) = some 1 := by decide +kernel
theorem gwX0_plan_18 : GoodIn lw_all (wsV RX0 18 RX1 yX1_plan (wsW_ yX1_plan cX1_plan 4 (some .int) [(24, 37, 40, 118)])) := lw_VW q1097 q1098 q1099 q96 q1100
theorem hdV_X1_book : yX1_book.cls = RX1 ∧ yX1_book.cls ≠ "java/lang/invoke/MethodHandle" ∧ yX1_book.cls ≠ "java/lang/invoke/VarHandle" ∧ (parseMethodDescriptor yX1_book.desc).map (fun d => d.parameters.length) = some 1 := by decide +kernel
theorem gwX0_book_21 : GoodIn lw_all (wsV RX0 21 RX1 yX1_book (wsW_ yX1_book cX1_book 8 (some .int) [(33, 112, 115, 118)])) := lw_VW q1115 q1116 q1117 q96 q1118
theorem hdV_X1_told : yX1_told.cls = RX1 ∧ yX1_told.cls ≠ "java/lang/invoke/MethodHandle" ∧ yX1_told.cls ≠ "java/lang/invoke/VarHandle" ∧ (parseMethodDescriptor yX1_told.desc).map (fun d => d.parameters.length) = some 1 := by decide +kernel
theorem gwX0_told_24 : GoodIn lw_all (wsV RX0 24 RX1 yX1_told (ws_ yX1_told cX1_told 2 (some .int))) := lw_V q1128 q1129 q1130 q96 q1131
theorem hdV_X1_deed : yX1_deed.cls = RX1 ∧ yX1_deed.cls ≠ "java/lang/invoke/MethodHandle" ∧ yX1_deed.cls ≠ "java/lang/invoke/VarHandle" ∧ (parseMethodDescriptor yX1_deed.desc).map (fun d => d.parameters.length) = some 2 := by decide +kernel
theorem gwX0_deed_27 : GoodIn lw_all (wsV RX0 27 RX1 yX1_deed (ws_ yX1_deed cX1_deed 3 (some .int))) := lw_V q1136 q1137 q1138 q96 q1139
theorem hdV_X1_strong : yX1_strong.cls = RX1 ∧ yX1_strong.cls ≠ "java/lang/invoke/MethodHandle" ∧ yX1_strong.cls ≠ "java/lang/invoke/VarHandle" ∧ (parseMethodDescriptor yX1_strong.desc).map (fun d => d.parameters.length) = some 1 := by decide +kernel
theorem gwX0_strong_33 : GoodIn lw_all (wsV RX0 33 RX1 yX1_strong (ws_ yX1_strong cX1_strong 2 (some .int))) := lw_V q1166 q1167 q1168 q96 q1169
theorem hdV_X1_bears : yX1_bears.cls = RX1 ∧ yX1_bears.cls ≠ "java/lang/invoke/MethodHandle" ∧ yX1_bears.cls ≠ "java/lang/invoke/VarHandle" ∧ (parseMethodDescriptor yX1_bears.desc).map (fun d => d.parameters.length) = some 1 := by decide +kernel
theorem gwX0_bears_36 : GoodIn lw_all (wsV RX0 36 RX1 yX1_bears (ws_ yX1_bears cX1_bears 2 (some .int))) := lw_V q1177 q1178 q1179 q96 q1180
theorem hdV_X1_rains : yX1_rains.cls = RX1 ∧ yX1_rains.cls ≠ "java/lang/invoke/MethodHandle" ∧ yX1_rains.cls ≠ "java/lang/invoke/VarHandle" ∧ (parseMethodDescriptor yX1_rains.desc).map (fun d => d.parameters.length) = some 1 := by decide +kernel
theorem gwX0_rains_39 : GoodIn lw_all (wsV RX0 39 RX1 yX1_rains (ws_ yX1_rains cX1_rains 2 (some .boolean))) := lw_V q1184 q1185 q1186 q96 q1187
theorem hdV_X1_would : yX1_would.cls = RX1 ∧ yX1_would.cls ≠ "java/lang/invoke/MethodHandle" ∧ yX1_would.cls ≠ "java/lang/invoke/VarHandle" ∧ (parseMethodDescriptor yX1_would.desc).map (fun d => d.parameters.length) = some 6 := by decide +kernel
theorem gwX0_would_43 : GoodIn lw_all (wsV RX0 43 RX1 yX1_would (ws_ yX1_would cX1_would 8 (some .int))) := lw_V q1192 q1193 q1194 q96 q1195
theorem hdV_X1_line : yX1_line.cls = RX1 ∧ yX1_line.cls ≠ "java/lang/invoke/MethodHandle" ∧ yX1_line.cls ≠ "java/lang/invoke/VarHandle" ∧ (parseMethodDescriptor yX1_line.desc).map (fun d => d.parameters.length) = some 2 := by decide +kernel
theorem gwX0_line_47 : GoodIn lw_all (wsV RX0 47 RX1 yX1_line (ws_ yX1_line cX1_line 3 (some .int))) := lw_V q1202 q1203 q1204 q96 q1205
theorem hdV_X1_wet : yX1_wet.cls = RX1 ∧ yX1_wet.cls ≠ "java/lang/invoke/MethodHandle" ∧ yX1_wet.cls ≠ "java/lang/invoke/VarHandle" ∧ (parseMethodDescriptor yX1_wet.desc).map (fun d => d.parameters.length) = some 1 := by decide +kernel
theorem gwX0_wet_50 : GoodIn lw_all (wsV RX0 50 RX1 yX1_wet (ws_ yX1_wet cX1_wet 2 (some .int))) := lw_V q1213 q1214 q1215 q96 q1216
theorem hdV_X1_idle : yX1_idle.cls = RX1 ∧ yX1_idle.cls ≠ "java/lang/invoke/MethodHandle" ∧ yX1_idle.cls ≠ "java/lang/invoke/VarHandle" ∧ (parseMethodDescriptor yX1_idle.desc).map (fun d => d.parameters.length) = some 1 := by decide +kernel
theorem gwX0_idle_53 : GoodIn lw_all (wsV RX0 53 RX1 yX1_idle (ws_ yX1_idle cX1_idle 2 (some .int))) := lw_V q1220 q1221 q1222 q96 q1223
theorem hdV_X1_slack : yX1_slack.cls = RX1 ∧ yX1_slack.cls ≠ "java/lang/invoke/MethodHandle" ∧ yX1_slack.cls ≠ "java/lang/invoke/VarHandle" ∧ (parseMethodDescriptor yX1_slack.desc).map (fun d => d.parameters.length) = some 1 := by decide +kernel
theorem gwX0_slack_56 : GoodIn lw_all (wsV RX0 56 RX1 yX1_slack (ws_ yX1_slack cX1_slack 2 (some .int))) := lw_V q1227 q1228 q1229 q96 q1230
theorem hdV_X1_ahead : yX1_ahead.cls = RX1 ∧ yX1_ahead.cls ≠ "java/lang/invoke/MethodHandle" ∧ yX1_ahead.cls ≠ "java/lang/invoke/VarHandle" ∧ (parseMethodDescriptor yX1_ahead.desc).map (fun d => d.parameters.length) = some 1 := by decide +kernel
theorem gwX0_ahead_59 : GoodIn lw_all (wsV RX0 59 RX1 yX1_ahead (ws_ yX1_ahead cX1_ahead 2 (some .int))) := lw_V q1234 q1235 q1236 q96 q1237
theorem hdV_X1_chain : yX1_chain.cls = RX1 ∧ yX1_chain.cls ≠ "java/lang/invoke/MethodHandle" ∧ yX1_chain.cls ≠ "java/lang/invoke/VarHandle" ∧ (parseMethodDescriptor yX1_chain.desc).map (fun d => d.parameters.length) = some 1 := by decide +kernel
theorem gwX0_chain_62 : GoodIn lw_all (wsV RX0 62 RX1 yX1_chain (ws_ yX1_chain cX1_chain 2 (some .int))) := lw_V q1245 q1246 q1247 q96 q1248
theorem hdV_X1_soonest : yX1_soonest.cls = RX1 ∧ yX1_soonest.cls ≠ "java/lang/invoke/MethodHandle" ∧ yX1_soonest.cls ≠ "java/lang/invoke/VarHandle" ∧ (parseMethodDescriptor yX1_soonest.desc).map (fun d => d.parameters.length) = some 1 := by decide +kernel
theorem gwX0_soonest_65 : GoodIn lw_all (wsV RX0 65 RX1 yX1_soonest (ws_ yX1_soonest cX1_soonest 2 (some .int))) := lw_V q1259 q1260 q1261 q96 q1262
theorem hdV_X1_first : yX1_first.cls = RX1 ∧ yX1_first.cls ≠ "java/lang/invoke/MethodHandle" ∧ yX1_first.cls ≠ "java/lang/invoke/VarHandle" ∧ (parseMethodDescriptor yX1_first.desc).map (fun d => d.parameters.length) = some 1 := by decide +kernel
theorem gwX0_first_70 : GoodIn lw_all (wsV RX0 70 RX1 yX1_first (ws_ yX1_first cX1_first 2 (some .int))) := lw_V q1305 q1306 q1307 q96 q1308
theorem hdV_X1_sinks : yX1_sinks.cls = RX1 ∧ yX1_sinks.cls ≠ "java/lang/invoke/MethodHandle" ∧ yX1_sinks.cls ≠ "java/lang/invoke/VarHandle" ∧ (parseMethodDescriptor yX1_sinks.desc).map (fun d => d.parameters.length) = some 3 := by decide +kernel
theorem gwX0_sinks_73 : GoodIn lw_all (wsV RX0 73 RX1 yX1_sinks (ws_ yX1_sinks cX1_sinks 4 (some .int))) := lw_V q1312 q1313 q1314 q96 q1315
theorem hdV_X1_under : yX1_under.cls = RX1 ∧ yX1_under.cls ≠ "java/lang/invoke/MethodHandle" ∧ yX1_under.cls ≠ "java/lang/invoke/VarHandle" ∧ (parseMethodDescriptor yX1_under.desc).map (fun d => d.parameters.length) = some 3 := by decide +kernel
theorem gwX0_under_77 : GoodIn lw_all (wsV RX0 77 RX1 yX1_under (ws_ yX1_under cX1_under 6 (some .int))) := lw_V q1327 q1328 q1329 q96 q1330
theorem hdV_X1_push : yX1_push.cls = RX1 ∧ yX1_push.cls ≠ "java/lang/invoke/MethodHandle" ∧ yX1_push.cls ≠ "java/lang/invoke/VarHandle" ∧ (parseMethodDescriptor yX1_push.desc).map (fun d => d.parameters.length) = some 4 := by decide +kernel
theorem gwX0_push_80 : GoodIn lw_all (wsV RX0 80 RX1 yX1_push (ws_ yX1_push cX1_push 9 (some .int))) := lw_V q1335 q1336 q1337 q96 q1338
theorem hdV_X1_tries : yX1_tries.cls = RX1 ∧ yX1_tries.cls ≠ "java/lang/invoke/MethodHandle" ∧ yX1_tries.cls ≠ "java/lang/invoke/VarHandle" ∧ (parseMethodDescriptor yX1_tries.desc).map (fun d => d.parameters.length) = some 4 := by decide +kernel
theorem gwX0_tries_84 : GoodIn lw_all (wsV RX0 84 RX1 yX1_tries (ws_ yX1_tries cX1_tries 5 (some .long))) := lw_V q1345 q1346 q1347 q96 q1348
theorem hdV_X1_half : yX1_half.cls = RX1 ∧ yX1_half.cls ≠ "java/lang/invoke/MethodHandle" ∧ yX1_half.cls ≠ "java/lang/invoke/VarHandle" ∧ (parseMethodDescriptor yX1_half.desc).map (fun d => d.parameters.length) = some 2 := by decide +kernel
theorem gwX0_half_88 : GoodIn lw_all (wsV RX0 88 RX1 yX1_half (ws_ yX1_half cX1_half 4 (some .int))) := lw_V q1366 q1367 q1368 q96 q1369
theorem hdV_X1_easiest : yX1_easiest.cls = RX1 ∧ yX1_easiest.cls ≠ "java/lang/invoke/MethodHandle" ∧ yX1_easiest.cls ≠ "java/lang/invoke/VarHandle" ∧ (parseMethodDescriptor yX1_easiest.desc).map (fun d => d.parameters.length) = some 1 := by decide +kernel
theorem gwX0_easiest_91 : GoodIn lw_all (wsV RX0 91 RX1 yX1_easiest (ws_ yX1_easiest cX1_easiest 4 (some .int))) := lw_V q1374 q1375 q1376 q96 q1377
theorem hdV_X1_waits : yX1_waits.cls = RX1 ∧ yX1_waits.cls ≠ "java/lang/invoke/MethodHandle" ∧ yX1_waits.cls ≠ "java/lang/invoke/VarHandle" ∧ (parseMethodDescriptor yX1_waits.desc).map (fun d => d.parameters.length) = some 4 := by decide +kernel
theorem gwX0_waits_94 : GoodIn lw_all (wsV RX0 94 RX1 yX1_waits (ws_ yX1_waits cX1_waits 5 (some .long))) := lw_V q1381 q1382 q1383 q96 q1384
theorem hdV_X1_await : yX1_await.cls = RX1 ∧ yX1_await.cls ≠ "java/lang/invoke/MethodHandle" ∧ yX1_await.cls ≠ "java/lang/invoke/VarHandle" ∧ (parseMethodDescriptor yX1_await.desc).map (fun d => d.parameters.length) = some 2 := by decide +kernel
theorem gwX0_await_97 : GoodIn lw_all (wsV RX0 97 RX1 yX1_await (ws_ yX1_await cX1_await 5 (some .int))) := lw_V q1396 q1397 q1398 q96 q1399
theorem hdV_X1_cross : yX1_cross.cls = RX1 ∧ yX1_cross.cls ≠ "java/lang/invoke/MethodHandle" ∧ yX1_cross.cls ≠ "java/lang/invoke/VarHandle" ∧ (parseMethodDescriptor yX1_cross.desc).map (fun d => d.parameters.length) = some 2 := by decide +kernel
theorem gwX0_cross_100 : GoodIn lw_all (wsV RX0 100 RX1 yX1_cross (ws_ yX1_cross cX1_cross 3 (some .int))) := lw_V q1403 q1404 q1405 q96 q1406
theorem hdV_X1_crooked : yX1_crooked.cls = RX1 ∧ yX1_crooked.cls ≠ "java/lang/invoke/MethodHandle" ∧ yX1_crooked.cls ≠ "java/lang/invoke/VarHandle" ∧ (parseMethodDescriptor yX1_crooked.desc).map (fun d => d.parameters.length) = some 1 := by decide +kernel
theorem gwX0_crooked_103 : GoodIn lw_all (wsV RX0 103 RX1 yX1_crooked (ws_ yX1_crooked cX1_crooked 8 (some .int))) := lw_V q1423 q1424 q1425 q96 q1426
theorem hdV_X1_share : yX1_share.cls = RX1 ∧ yX1_share.cls ≠ "java/lang/invoke/MethodHandle" ∧ yX1_share.cls ≠ "java/lang/invoke/VarHandle" ∧ (parseMethodDescriptor yX1_share.desc).map (fun d => d.parameters.length) = some 1 := by decide +kernel
theorem gwX0_share_106 : GoodIn lw_all (wsV RX0 106 RX1 yX1_share (ws_ yX1_share cX1_share 2 (some .int))) := lw_V q1431 q1432 q1433 q96 q1434
theorem hdV_X1_drive : yX1_drive.cls = RX1 ∧ yX1_drive.cls ≠ "java/lang/invoke/MethodHandle" ∧ yX1_drive.cls ≠ "java/lang/invoke/VarHandle" ∧ (parseMethodDescriptor yX1_drive.desc).map (fun d => d.parameters.length) = some 1 := by decide +kernel
theorem gwX0_drive_109 : GoodIn lw_all (wsV RX0 109 RX1 yX1_drive (ws_ yX1_drive cX1_drive 2 (some .int))) := lw_V q1438 q1439 q1440 q96 q1441
theorem hdV_X1_pumps : yX1_pumps.cls = RX1 ∧ yX1_pumps.cls ≠ "java/lang/invoke/MethodHandle" ∧ yX1_pumps.cls ≠ "java/lang/invoke/VarHandle" ∧ (parseMethodDescriptor yX1_pumps.desc).map (fun d => d.parameters.length) = some 1 := by decide +kernel
theorem gwX0_pumps_112 : GoodIn lw_all (wsV RX0 112 RX1 yX1_pumps (ws_ yX1_pumps cX1_pumps 2 (some .int))) := lw_V q1456 q1457 q1458 q96 q1459
theorem hdV_X1_odds : yX1_odds.cls = RX1 ∧ yX1_odds.cls ≠ "java/lang/invoke/MethodHandle" ∧ yX1_odds.cls ≠ "java/lang/invoke/VarHandle" ∧ (parseMethodDescriptor yX1_odds.desc).map (fun d => d.parameters.length) = some 2 := by decide +kernel
theorem gwX0_odds_115 : GoodIn lw_all (wsV RX0 115 RX1 yX1_odds (ws_ yX1_odds cX1_odds 5 (some .long))) := lw_V q1463 q1464 q1465 q96 q1466
theorem hdV_X1_evening : yX1_evening.cls = RX1 ∧ yX1_evening.cls ≠ "java/lang/invoke/MethodHandle" ∧ yX1_evening.cls ≠ "java/lang/invoke/VarHandle" ∧ (parseMethodDescriptor yX1_evening.desc).map (fun d => d.parameters.length) = some 2 := by decide +kernel
theorem gwX0_evening_119 : GoodIn lw_all (wsV RX0 119 RX1 yX1_evening (ws_ yX1_evening cX1_evening 3 (some .int))) := lw_V q1470 q1471 q1472 q96 q1473
theorem hdV_X1_evenings : yX1_evenings.cls = RX1 ∧ yX1_evenings.cls ≠ "java/lang/invoke/MethodHandle" ∧ yX1_evenings.cls ≠ "java/lang/invoke/VarHandle" ∧ (parseMethodDescriptor yX1_evenings.desc).map (fun d => d.parameters.length) = some 3 := by decide +kernel
theorem gwX0_evenings_122 : GoodIn lw_all (wsV RX0 122 RX1 yX1_evenings (ws_ yX1_evenings cX1_evenings 10 (some .int))) := lw_V q1486 q1487 q1488 q96 q1489
theorem hdV_X1_swap : yX1_swap.cls = RX1 ∧ yX1_swap.cls ≠ "java/lang/invoke/MethodHandle" ∧ yX1_swap.cls ≠ "java/lang/invoke/VarHandle" ∧ (parseMethodDescriptor yX1_swap.desc).map (fun d => d.parameters.length) = some 2 := by decide +kernel
theorem gwX0_swap_125 : GoodIn lw_all (wsV RX0 125 RX1 yX1_swap (ws_ yX1_swap cX1_swap 3 (some .int))) := lw_V q1493 q1494 q1495 q96 q1496
theorem hdV_X1_hand : yX1_hand.cls = RX1 ∧ yX1_hand.cls ≠ "java/lang/invoke/MethodHandle" ∧ yX1_hand.cls ≠ "java/lang/invoke/VarHandle" ∧ (parseMethodDescriptor yX1_hand.desc).map (fun d => d.parameters.length) = some 2 := by decide +kernel
theorem gwX0_hand_128 : GoodIn lw_all (wsV RX0 128 RX1 yX1_hand (ws_ yX1_hand cX1_hand 3 (some .int))) := lw_V q1511 q1512 q1513 q96 q1514
theorem hdV_X1_drop : yX1_drop.cls = RX1 ∧ yX1_drop.cls ≠ "java/lang/invoke/MethodHandle" ∧ yX1_drop.cls ≠ "java/lang/invoke/VarHandle" ∧ (parseMethodDescriptor yX1_drop.desc).map (fun d => d.parameters.length) = some 1 := by decide +kernel
theorem gwX0_drop_131 : GoodIn lw_all (wsV RX0 131 RX1 yX1_drop (ws_ yX1_drop cX1_drop 2 (some .int))) := lw_V q1518 q1519 q1520 q96 q1521
set_option maxHeartbeats 4000000 in
theorem con_xLaw0_road (N : Nat) (l2 : Nat) (K : Nat → Nat) (sz : Nat) (hKS : KS true K sz K sz) (hK2 : K l2 = 40001) (g : GS) (l1 : Int) (r : (Int × S3)) (h : xLaw0_road N l2 K sz g l1 = some r) : ConAW [(0, 9, 12, 13)] true sz yX0_road cX0_road 4 (some .int) 12 281 K (fun b => [.ref (b + 0), vI l1, .ref (b + l2)]) g (fun r => ((fun _ => some (vI r.1)), r.2)) (.inr r) := by
  refine ConAW.of RX0 (by decide) rfl (fun b => Nat.le_of_ble_eq_true rfl) (fun x hX hnm => ?_)
  have X := hX.1
  have h0K := hKS.2.2.1
  have hK2e := hK2
  have hWS := hKS.2.2.2.2 rfl
  have hW := hWS.1
  unfold xLaw0_road at h
  show V x 4 K (sz - sz) (600 * (sz - sz)) sz g 0 [(0, .ref (xb x + 0)), (1, vI l1), (2, .ref (xb x + l2))] []
  refine V_aload_n X dX0_road_0 2 rfl ?_
  refine V_iconst X dX0_road_1 ?_
  refine V_aload_n X dX0_road_2 0 rfl ?_
  refine V_iload_n X dX0_road_3 1 rfl ?_
  obtain ⟨c4, hc4, h⟩ := bind_some_eq h
  rcases c4 with ⟨e4_, s4_⟩ | y4
  · replace h := thT_l h
    dsimp only at h
    by_cases he4_1 : e4_ = 1
    · rw [if_pos he4_1] at h
      rw [he4_1] at hc4
      refine RunA.catch (name := "java/lang/IllegalArgumentException") (runV_W (ci := 0) (N := 18) (T := TX1) (As := [vI l1]) (rest := [vI 0, .ref (xb x + l2)]) (o := 0) X hKS.2.1 (con_x_road N K sz hKS.here g l1 (.inl (1, s4_)) hc4) gwX0_road_7 hdV_X1_road ⟨Nat.le_of_ble_eq_true rfl, Nat.le_of_ble_eq_true rfl⟩ rfl (by decide) (hW.at 0 rfl) rfl rfl (Nat.le_of_ble_eq_true rfl) dX0_road_4 rfl) X hX.2.2.2.1 hX.hA hX.2.2.2.2 [] (0, 9, 12, 13) [] rfl (fun _ h => nomatch h) (by decide) (by decide) q709 q721 (fun hKSc => ?_)
      have hK2 := hKS.kp hKSc hK2
      have hKS := hKS.tr hKSc
      have hWS := hKS.2.2.2.2 rfl
      have hW := hWS.1
      refine V_astore_n X dX0_road_12 (by decide) (L' := [(3, .ref (xb x + (s4_.2.1 - 1))), (0, .ref (xb x + 0)), (1, vI l1), (2, .ref (xb x + l2))]) rfl ?_
      refine V_iconst X dX0_road_13 ?_
      have hr := Option.some.inj h
      subst hr
      exact V_endA_i hX rfl hKS dX0_road_14
    rw [if_neg he4_1] at h
    cases h
  replace h := thT_r h
  refine RunA.back (s1 := [vI y4.1, vI 0, .ref (xb x + l2)]) (runV_W (ci := 0) (N := 18) (T := TX1) (As := [vI l1]) (rest := [vI 0, .ref (xb x + l2)]) (o := 0) X hKS.2.1 (con_x_road N K sz hKS.here g l1 (.inr y4) hc4) gwX0_road_7 hdV_X1_road ⟨Nat.le_of_ble_eq_true rfl, Nat.le_of_ble_eq_true rfl⟩ rfl (by decide) (hW.at 0 rfl) rfl rfl (Nat.le_of_ble_eq_true rfl) dX0_road_4 rfl) X hX.2.2.2.1 hX.hA rfl (fun hKSc => ?_)
  have hK2 := hKS.kp hKSc hK2
  have hKS := hKS.tr hKSc
  have hWS := hKS.2.2.2.2 rfl
  have hW := hWS.1
  refine V_i2l X dX0_road_7 ?_
  refine V_last (o := l2) (n := 1) X hK2 (by decide) dX0_road_8 h (fun g8 h => ?_)
  refine V_goto (tgt := 15) X dX0_road_9 (by decide) ?_
  refine V_iconst X dX0_road_15 ?_
  have hr := Option.some.inj h
  subst hr
  exact V_endA_i hX rfl hKS dX0_road_16
set_option maxHeartbeats 4000000 in
theorem con_xLaw0_law (N : Nat) (l2 : Nat) (K : Nat → Nat) (sz : Nat) (hKS : KS true K sz K sz) (hK2 : K l2 = 40001) (g : GS) (l1 : Int) (r : (Int × S3)) (h : xLaw0_law N l2 K sz g l1 = some r) : ConAW [(0, 9, 12, 13)] true sz yX0_law cX0_law 4 (some .int) 243 6664 K (fun b => [.ref (b + 0), vI l1, .ref (b + l2)]) g (fun r => ((fun _ => some (vI r.1)), r.2)) (.inr r) := by
  refine ConAW.of RX0 (by decide) rfl (fun b => Nat.le_of_ble_eq_true rfl) (fun x hX hnm => ?_)
  have X := hX.1
  have h0K := hKS.2.2.1
  have hK2e := hK2
  have hWS := hKS.2.2.2.2 rfl
  have hW := hWS.1
  unfold xLaw0_law at h
  show V x 4 K (sz - sz) (600 * (sz - sz)) sz g 0 [(0, .ref (xb x + 0)), (1, vI l1), (2, .ref (xb x + l2))] []
  refine V_aload_n X dX0_law_0 2 rfl ?_
  refine V_iconst X dX0_law_1 ?_
  refine V_aload_n X dX0_law_2 0 rfl ?_
  refine V_iload_n X dX0_law_3 1 rfl ?_
  obtain ⟨c4, hc4, h⟩ := bind_some_eq h
  rcases c4 with ⟨e4_, s4_⟩ | y4
  · replace h := thT_l h
    dsimp only at h
    by_cases he4_1 : e4_ = 1
    · rw [if_pos he4_1] at h
      rw [he4_1] at hc4
      refine RunA.catch (name := "java/lang/IllegalArgumentException") (runV_W (ci := 0) (N := 18) (T := TX1) (As := [vI l1]) (rest := [vI 0, .ref (xb x + l2)]) (o := 0) X hKS.2.1 (con_x_law N K sz hKS.here g l1 (.inl (1, s4_)) hc4) gwX0_law_15 hdV_X1_law ⟨Nat.le_of_ble_eq_true rfl, Nat.le_of_ble_eq_true rfl⟩ rfl (by decide) (hW.at 0 rfl) rfl rfl (Nat.le_of_ble_eq_true rfl) dX0_law_4 rfl) X hX.2.2.2.1 hX.hA hX.2.2.2.2 [] (0, 9, 12, 13) [] rfl (fun _ h => nomatch h) (by decide) (by decide) q709 q721 (fun hKSc => ?_)
      have hK2 := hKS.kp hKSc hK2
      have hKS := hKS.tr hKSc
      have hWS := hKS.2.2.2.2 rfl
      have hW := hWS.1
      refine V_astore_n X dX0_law_12 (by decide) (L' := [(3, .ref (xb x + (s4_.2.1 - 1))), (0, .ref (xb x + 0)), (1, vI l1), (2, .ref (xb x + l2))]) rfl ?_
      refine V_iconst X dX0_law_13 ?_
      have hr := Option.some.inj h
      subst hr
      exact V_endA_i hX rfl hKS dX0_law_14
    rw [if_neg he4_1] at h
    cases h
  replace h := thT_r h
  refine RunA.back (s1 := [vI y4.1, vI 0, .ref (xb x + l2)]) (runV_W (ci := 0) (N := 18) (T := TX1) (As := [vI l1]) (rest := [vI 0, .ref (xb x + l2)]) (o := 0) X hKS.2.1 (con_x_law N K sz hKS.here g l1 (.inr y4) hc4) gwX0_law_15 hdV_X1_law ⟨Nat.le_of_ble_eq_true rfl, Nat.le_of_ble_eq_true rfl⟩ rfl (by decide) (hW.at 0 rfl) rfl rfl (Nat.le_of_ble_eq_true rfl) dX0_law_4 rfl) X hX.2.2.2.1 hX.hA rfl (fun hKSc => ?_)
  have hK2 := hKS.kp hKSc hK2
  have hKS := hKS.tr hKSc
  have hWS := hKS.2.2.2.2 rfl
  have hW := hWS.1
  refine V_i2l X dX0_law_7 ?_
  refine V_last (o := l2) (n := 1) X hK2 (by decide) dX0_law_8 h (fun g8 h => ?_)
  refine V_goto (tgt := 15) X dX0_law_9 (by decide) ?_
  refine V_iconst X dX0_law_15 ?_
  have hr := Option.some.inj h
  subst hr
  exact V_endA_i hX rfl hKS dX0_law_16
set_option maxHeartbeats 4000000 in
theorem con_xLaw0_plan (N : Nat) (l2 : Nat) (K : Nat → Nat) (sz : Nat) (hKS : KS true K sz K sz) (hK2 : K l2 = 40001) (g : GS) (l1 : Int) (r : (Int × S3)) (h : xLaw0_plan N l2 K sz g l1 = some r) : ConAW [(0, 9, 12, 13)] true sz yX0_plan cX0_plan 4 (some .int) 10 235 K (fun b => [.ref (b + 0), vI l1, .ref (b + l2)]) g (fun r => ((fun _ => some (vI r.1)), r.2)) (.inr r) := by
  refine ConAW.of RX0 (by decide) rfl (fun b => Nat.le_of_ble_eq_true rfl) (fun x hX hnm => ?_)
  have X := hX.1
  have h0K := hKS.2.2.1
  have hK2e := hK2
  have hWS := hKS.2.2.2.2 rfl
  have hW := hWS.1
  unfold xLaw0_plan at h
  show V x 4 K (sz - sz) (600 * (sz - sz)) sz g 0 [(0, .ref (xb x + 0)), (1, vI l1), (2, .ref (xb x + l2))] []
  refine V_aload_n X dX0_plan_0 2 rfl ?_
  refine V_iconst X dX0_plan_1 ?_
  refine V_aload_n X dX0_plan_2 0 rfl ?_
  refine V_iload_n X dX0_plan_3 1 rfl ?_
  obtain ⟨c4, hc4, h⟩ := bind_some_eq h
  rcases c4 with ⟨e4_, s4_⟩ | y4
  · replace h := thT_l h
    dsimp only at h
    by_cases he4_1 : e4_ = 1
    · rw [if_pos he4_1] at h
      rw [he4_1] at hc4
      refine RunA.catch (name := "java/lang/IllegalArgumentException") (runV_W (ci := 0) (N := 18) (T := TX1) (As := [vI l1]) (rest := [vI 0, .ref (xb x + l2)]) (o := 0) X hKS.2.1 (con_x_plan N K sz hKS.here g l1 (.inl (1, s4_)) hc4) gwX0_plan_18 hdV_X1_plan ⟨Nat.le_of_ble_eq_true rfl, Nat.le_of_ble_eq_true rfl⟩ rfl (by decide) (hW.at 0 rfl) rfl rfl (Nat.le_of_ble_eq_true rfl) dX0_plan_4 rfl) X hX.2.2.2.1 hX.hA hX.2.2.2.2 [] (0, 9, 12, 13) [] rfl (fun _ h => nomatch h) (by decide) (by decide) q709 q721 (fun hKSc => ?_)
      have hK2 := hKS.kp hKSc hK2
      have hKS := hKS.tr hKSc
      have hWS := hKS.2.2.2.2 rfl
      have hW := hWS.1
      refine V_astore_n X dX0_plan_12 (by decide) (L' := [(3, .ref (xb x + (s4_.2.1 - 1))), (0, .ref (xb x + 0)), (1, vI l1), (2, .ref (xb x + l2))]) rfl ?_
      refine V_iconst X dX0_plan_13 ?_
      have hr := Option.some.inj h
      subst hr
      exact V_endA_i hX rfl hKS dX0_plan_14
    rw [if_neg he4_1] at h
    cases h
  replace h := thT_r h
  refine RunA.back (s1 := [vI y4.1, vI 0, .ref (xb x + l2)]) (runV_W (ci := 0) (N := 18) (T := TX1) (As := [vI l1]) (rest := [vI 0, .ref (xb x + l2)]) (o := 0) X hKS.2.1 (con_x_plan N K sz hKS.here g l1 (.inr y4) hc4) gwX0_plan_18 hdV_X1_plan ⟨Nat.le_of_ble_eq_true rfl, Nat.le_of_ble_eq_true rfl⟩ rfl (by decide) (hW.at 0 rfl) rfl rfl (Nat.le_of_ble_eq_true rfl) dX0_plan_4 rfl) X hX.2.2.2.1 hX.hA rfl (fun hKSc => ?_)
  have hK2 := hKS.kp hKSc hK2
  have hKS := hKS.tr hKSc
  have hWS := hKS.2.2.2.2 rfl
  have hW := hWS.1
  refine V_i2l X dX0_plan_7 ?_
  refine V_last (o := l2) (n := 1) X hK2 (by decide) dX0_plan_8 h (fun g8 h => ?_)
  refine V_goto (tgt := 15) X dX0_plan_9 (by decide) ?_
  refine V_iconst X dX0_plan_15 ?_
  have hr := Option.some.inj h
  subst hr
  exact V_endA_i hX rfl hKS dX0_plan_16
set_option maxHeartbeats 4000000 in
theorem con_xLaw0_book (N : Nat) (l2 : Nat) (K : Nat → Nat) (sz : Nat) (hKS : KS true K sz K sz) (hK2 : K l2 = 40001) (g : GS) (l1 : Int) (r : (Int × S3)) (h : xLaw0_book N l2 K sz g l1 = some r) : ConAW [(0, 9, 12, 13)] true sz yX0_book cX0_book 4 (some .int) 9 230 K (fun b => [.ref (b + 0), vI l1, .ref (b + l2)]) g (fun r => ((fun _ => some (vI r.1)), r.2)) (.inr r) := by
  refine ConAW.of RX0 (by decide) rfl (fun b => Nat.le_of_ble_eq_true rfl) (fun x hX hnm => ?_)
  have X := hX.1
  have h0K := hKS.2.2.1
  have hK2e := hK2
  have hWS := hKS.2.2.2.2 rfl
  have hW := hWS.1
  unfold xLaw0_book at h
  show V x 4 K (sz - sz) (600 * (sz - sz)) sz g 0 [(0, .ref (xb x + 0)), (1, vI l1), (2, .ref (xb x + l2))] []
  refine V_aload_n X dX0_book_0 2 rfl ?_
  refine V_iconst X dX0_book_1 ?_
  refine V_aload_n X dX0_book_2 0 rfl ?_
  refine V_iload_n X dX0_book_3 1 rfl ?_
  obtain ⟨c4, hc4, h⟩ := bind_some_eq h
  rcases c4 with ⟨e4_, s4_⟩ | y4
  · replace h := thT_l h
    dsimp only at h
    by_cases he4_1 : e4_ = 1
    · rw [if_pos he4_1] at h
      rw [he4_1] at hc4
      refine RunA.catch (name := "java/lang/IllegalArgumentException") (runV_W (ci := 0) (N := 18) (T := TX1) (As := [vI l1]) (rest := [vI 0, .ref (xb x + l2)]) (o := 0) X hKS.2.1 (con_x_book N K sz hKS.here g l1 (.inl (1, s4_)) hc4) gwX0_book_21 hdV_X1_book ⟨Nat.le_of_ble_eq_true rfl, Nat.le_of_ble_eq_true rfl⟩ rfl (by decide) (hW.at 0 rfl) rfl rfl (Nat.le_of_ble_eq_true rfl) dX0_book_4 rfl) X hX.2.2.2.1 hX.hA hX.2.2.2.2 [] (0, 9, 12, 13) [] rfl (fun _ h => nomatch h) (by decide) (by decide) q709 q721 (fun hKSc => ?_)
      have hK2 := hKS.kp hKSc hK2
      have hKS := hKS.tr hKSc
      have hWS := hKS.2.2.2.2 rfl
      have hW := hWS.1
      refine V_astore_n X dX0_book_12 (by decide) (L' := [(3, .ref (xb x + (s4_.2.1 - 1))), (0, .ref (xb x + 0)), (1, vI l1), (2, .ref (xb x + l2))]) rfl ?_
      refine V_iconst X dX0_book_13 ?_
      have hr := Option.some.inj h
      subst hr
      exact V_endA_i hX rfl hKS dX0_book_14
    rw [if_neg he4_1] at h
    cases h
  replace h := thT_r h
  refine RunA.back (s1 := [vI y4.1, vI 0, .ref (xb x + l2)]) (runV_W (ci := 0) (N := 18) (T := TX1) (As := [vI l1]) (rest := [vI 0, .ref (xb x + l2)]) (o := 0) X hKS.2.1 (con_x_book N K sz hKS.here g l1 (.inr y4) hc4) gwX0_book_21 hdV_X1_book ⟨Nat.le_of_ble_eq_true rfl, Nat.le_of_ble_eq_true rfl⟩ rfl (by decide) (hW.at 0 rfl) rfl rfl (Nat.le_of_ble_eq_true rfl) dX0_book_4 rfl) X hX.2.2.2.1 hX.hA rfl (fun hKSc => ?_)
  have hK2 := hKS.kp hKSc hK2
  have hKS := hKS.tr hKSc
  have hWS := hKS.2.2.2.2 rfl
  have hW := hWS.1
  refine V_i2l X dX0_book_7 ?_
  refine V_last (o := l2) (n := 1) X hK2 (by decide) dX0_book_8 h (fun g8 h => ?_)
  refine V_goto (tgt := 15) X dX0_book_9 (by decide) ?_
  refine V_iconst X dX0_book_15 ?_
  have hr := Option.some.inj h
  subst hr
  exact V_endA_i hX rfl hKS dX0_book_16
set_option maxHeartbeats 4000000 in
theorem con_xLaw0_told (l2 : Nat) (K : Nat → Nat) (sz : Nat) (hKS : KS true K sz K sz) (hK2 : K l2 = 40001) (g : GS) (l1 : Int) (r : (Int × S3)) (h : xLaw0_told l2 K sz g l1 = some r) : ConAW [(0, 9, 12, 13)] true sz yX0_told cX0_told 4 (some .int) 9 204 K (fun b => [.ref (b + 0), vI l1, .ref (b + l2)]) g (fun r => ((fun _ => some (vI r.1)), r.2)) (.inr r) := by
  refine ConAW.of RX0 (by decide) rfl (fun b => Nat.le_of_ble_eq_true rfl) (fun x hX hnm => ?_)
  have X := hX.1
  have h0K := hKS.2.2.1
  have hK2e := hK2
  have hWS := hKS.2.2.2.2 rfl
  have hW := hWS.1
  unfold xLaw0_told at h
  show V x 4 K (sz - sz) (600 * (sz - sz)) sz g 0 [(0, .ref (xb x + 0)), (1, vI l1), (2, .ref (xb x + l2))] []
  refine V_aload_n X dX0_told_0 2 rfl ?_
  refine V_iconst X dX0_told_1 ?_
  refine V_aload_n X dX0_told_2 0 rfl ?_
  refine V_iload_n X dX0_told_3 1 rfl ?_
  obtain ⟨c4, hc4, h⟩ := bind_some_eq h
  rcases c4 with ⟨e4_, s4_⟩ | y4
  · replace h := thT_l h
    obtain ⟨hm, h⟩ := lim_some h
    by_cases he4_1 : e4_ = 1
    · rw [if_pos he4_1] at h
      rw [he4_1] at hc4
      refine RunA.catch (name := "java/lang/IllegalArgumentException") (runV_A (ci := 0) (N := 18) (T := TX1) (As := [vI l1]) (rest := [vI 0, .ref (xb x + l2)]) (o := 0) X hKS.2.1 (ConThr.toA (β := Unit) (v := fun _ => (fun _ => none, K, sz, g)) (con_x_told K hW sz g l1 (.inl (1, s4_)) hc4) hm (hKS.here.kEw _ hm)) gwX0_told_24 hdV_X1_told ⟨Nat.le_of_ble_eq_true rfl, Nat.le_of_ble_eq_true rfl⟩ rfl (by decide) (hW.at 0 rfl) rfl rfl (Nat.le_of_ble_eq_true rfl) dX0_told_4 rfl) X hX.2.2.2.1 hX.hA hX.2.2.2.2 [] (0, 9, 12, 13) [] rfl (fun _ h => nomatch h) (by decide) (by decide) q709 q721 (fun hKSc => ?_)
      have hK2 := hKS.kp hKSc hK2
      have hKS := hKS.tr hKSc
      have hWS := hKS.2.2.2.2 rfl
      have hW := hWS.1
      refine V_astore_n X dX0_told_12 (by decide) (L' := [(3, .ref (xb x + sz)), (0, .ref (xb x + 0)), (1, vI l1), (2, .ref (xb x + l2))]) rfl ?_
      refine V_iconst X dX0_told_13 ?_
      have hr := Option.some.inj h
      subst hr
      exact V_endA_i hX rfl hKS dX0_told_14
    rw [if_neg he4_1] at h
    cases h
  replace h := thT_r h
  refine V_callV1 (ci := 0) (N := 18) (T := TX1) (As := [vI l1]) (rest := [vI 0, .ref (xb x + l2)]) (s1 := [vI y4.1, vI 0, .ref (xb x + l2)]) (o := 0) X (con_x_told K hW sz g l1 (.inr y4) hc4) gwX0_told_24 hdV_X1_told ⟨Nat.le_of_ble_eq_true rfl, Nat.le_of_ble_eq_true rfl⟩ rfl (by decide) (hW.at 0 rfl) rfl rfl (Nat.le_of_ble_eq_true rfl) (limcc hKS.2.1) dX0_told_4 rfl rfl ?_
  refine V_i2l X dX0_told_7 ?_
  refine V_last (o := l2) (n := 1) X hK2 (by decide) dX0_told_8 h (fun g8 h => ?_)
  refine V_goto (tgt := 15) X dX0_told_9 (by decide) ?_
  refine V_iconst X dX0_told_15 ?_
  have hr := Option.some.inj h
  subst hr
  exact V_endA_i hX rfl hKS dX0_told_16
set_option maxHeartbeats 4000000 in
theorem con_xLaw0_deed (l3 : Nat) (K : Nat → Nat) (sz : Nat) (hKS : KS true K sz K sz) (hK3 : K l3 = 40001) (g : GS) (l1 : Int) (l2 : Int) (r : (Int × S3)) (h : xLaw0_deed l3 K sz g l1 l2 = some r) : ConAW [(0, 10, 13, 31), (0, 10, 17, 13)] true sz yX0_deed cX0_deed 5 (some .int) 10 225 K (fun b => [.ref (b + 0), vI l1, vI l2, .ref (b + l3)]) g (fun r => ((fun _ => some (vI r.1)), r.2)) (.inr r) := by
  refine ConAW.of RX0 (by decide) rfl (fun b => Nat.le_of_ble_eq_true rfl) (fun x hX hnm => ?_)
  have X := hX.1
  have h0K := hKS.2.2.1
  have hK3e := hK3
  have hWS := hKS.2.2.2.2 rfl
  have hW := hWS.1
  unfold xLaw0_deed at h
  show V x 5 K (sz - sz) (600 * (sz - sz)) sz g 0 [(0, .ref (xb x + 0)), (1, vI l1), (2, vI l2), (3, .ref (xb x + l3))] []
  refine V_aload_n X dX0_deed_0 3 rfl ?_
  refine V_iconst X dX0_deed_1 ?_
  refine V_aload_n X dX0_deed_2 0 rfl ?_
  refine V_iload_n X dX0_deed_3 1 rfl ?_
  refine V_iload_n X dX0_deed_4 2 rfl ?_
  obtain ⟨c5, hc5, h⟩ := bind_some_eq h
  rcases c5 with ⟨e5_, s5_⟩ | y5
  · replace h := thT_l h
    obtain ⟨hm, h⟩ := lim_some h
    by_cases he5_0 : e5_ = 0
    · rw [if_pos he5_0] at h
      rw [he5_0] at hc5
      refine RunA.catch (name := "java/util/NoSuchElementException") (runV_A (ci := 0) (N := 18) (T := TX1) (As := [vI l1, vI l2]) (rest := [vI 0, .ref (xb x + l3)]) (o := 0) X hKS.2.1 (ConThr.toA (β := Unit) (v := fun _ => (fun _ => none, K, sz, g)) (con_x_deed K hW sz g l1 l2 (.inl (0, s5_)) hc5) hm (hKS.here.kEw _ hm)) gwX0_deed_27 hdV_X1_deed ⟨Nat.le_of_ble_eq_true rfl, Nat.le_of_ble_eq_true rfl⟩ rfl (by decide) (hW.at 0 rfl) rfl rfl (Nat.le_of_ble_eq_true rfl) dX0_deed_5 rfl) X hX.2.2.2.1 hX.hA hX.2.2.2.2 [] (0, 10, 13, 31) [(0, 10, 17, 13)] rfl (fun _ h => nomatch h) (by decide) (by decide) q1135 q1150 (fun hKSc => ?_)
      have hK3 := hKS.kp hKSc hK3
      have hKS := hKS.tr hKSc
      have hWS := hKS.2.2.2.2 rfl
      have hW := hWS.1
      refine V_astore X dX0_deed_13 (by decide) (L' := [(4, .ref (xb x + sz)), (0, .ref (xb x + 0)), (1, vI l1), (2, vI l2), (3, .ref (xb x + l3))]) rfl ?_
      refine V_iconst X dX0_deed_15 ?_
      have hr := Option.some.inj h
      subst hr
      exact V_endA_i hX rfl hKS dX0_deed_16
    rw [if_neg he5_0] at h
    by_cases he5_1 : e5_ = 1
    · rw [if_pos he5_1] at h
      rw [he5_1] at hc5
      refine RunA.catch (name := "java/lang/IllegalArgumentException") (runV_A (ci := 0) (N := 18) (T := TX1) (As := [vI l1, vI l2]) (rest := [vI 0, .ref (xb x + l3)]) (o := 0) X hKS.2.1 (ConThr.toA (β := Unit) (v := fun _ => (fun _ => none, K, sz, g)) (con_x_deed K hW sz g l1 l2 (.inl (1, s5_)) hc5) hm (hKS.here.kEw _ hm)) gwX0_deed_27 hdV_X1_deed ⟨Nat.le_of_ble_eq_true rfl, Nat.le_of_ble_eq_true rfl⟩ rfl (by decide) (hW.at 0 rfl) rfl rfl (Nat.le_of_ble_eq_true rfl) dX0_deed_5 rfl) X hX.2.2.2.1 hX.hA hX.2.2.2.2 [(0, 10, 13, 31)] (0, 10, 17, 13) [] rfl (fun q hq => by cases List.mem_singleton.mp hq; exact Or.inr ⟨by decide, "java/util/NoSuchElementException", q1135, (xok_sf X).nc _ nc_1_0⟩) (by decide) (by decide) q709 q721 (fun hKSc => ?_)
      have hK3 := hKS.kp hKSc hK3
      have hKS := hKS.tr hKSc
      have hWS := hKS.2.2.2.2 rfl
      have hW := hWS.1
      refine V_astore X dX0_deed_17 (by decide) (L' := [(4, .ref (xb x + sz)), (0, .ref (xb x + 0)), (1, vI l1), (2, vI l2), (3, .ref (xb x + l3))]) rfl ?_
      refine V_iconst X dX0_deed_19 ?_
      have hr := Option.some.inj h
      subst hr
      exact V_endA_i hX rfl hKS dX0_deed_20
    rw [if_neg he5_1] at h
    cases h
  replace h := thT_r h
  refine V_callV1 (ci := 0) (N := 18) (T := TX1) (As := [vI l1, vI l2]) (rest := [vI 0, .ref (xb x + l3)]) (s1 := [vI y5.1, vI 0, .ref (xb x + l3)]) (o := 0) X (con_x_deed K hW sz g l1 l2 (.inr y5) hc5) gwX0_deed_27 hdV_X1_deed ⟨Nat.le_of_ble_eq_true rfl, Nat.le_of_ble_eq_true rfl⟩ rfl (by decide) (hW.at 0 rfl) rfl rfl (Nat.le_of_ble_eq_true rfl) (limcc hKS.2.1) dX0_deed_5 rfl rfl ?_
  refine V_i2l X dX0_deed_8 ?_
  refine V_last (o := l3) (n := 1) X hK3 (by decide) dX0_deed_9 h (fun g9 h => ?_)
  refine V_goto (tgt := 21) X dX0_deed_10 (by decide) ?_
  refine V_iconst X dX0_deed_21 ?_
  have hr := Option.some.inj h
  subst hr
  exact V_endA_i hX rfl hKS dX0_deed_22
set_option maxHeartbeats 4000000 in
theorem con_xLaw0_strong (l2 : Nat) (K : Nat → Nat) (sz : Nat) (hKS : KS true K sz K sz) (hK2 : K l2 = 40001) (g : GS) (l1 : Int) (r : (Int × S3)) (h : xLaw0_strong l2 K sz g l1 = some r) : ConAW [(0, 9, 12, 31)] true sz yX0_strong cX0_strong 4 (some .int) 10 224 K (fun b => [.ref (b + 0), vI l1, .ref (b + l2)]) g (fun r => ((fun _ => some (vI r.1)), r.2)) (.inr r) := by
  refine ConAW.of RX0 (by decide) rfl (fun b => Nat.le_of_ble_eq_true rfl) (fun x hX hnm => ?_)
  have X := hX.1
  have h0K := hKS.2.2.1
  have hK2e := hK2
  have hWS := hKS.2.2.2.2 rfl
  have hW := hWS.1
  unfold xLaw0_strong at h
  show V x 4 K (sz - sz) (600 * (sz - sz)) sz g 0 [(0, .ref (xb x + 0)), (1, vI l1), (2, .ref (xb x + l2))] []
  refine V_aload_n X dX0_strong_0 2 rfl ?_
  refine V_iconst X dX0_strong_1 ?_
  refine V_aload_n X dX0_strong_2 0 rfl ?_
  refine V_iload_n X dX0_strong_3 1 rfl ?_
  obtain ⟨c4, hc4, h⟩ := bind_some_eq h
  rcases c4 with ⟨e4_, s4_⟩ | y4
  · replace h := thT_l h
    obtain ⟨hm, h⟩ := lim_some h
    by_cases he4_0 : e4_ = 0
    · rw [if_pos he4_0] at h
      rw [he4_0] at hc4
      refine RunA.catch (name := "java/util/NoSuchElementException") (runV_A (ci := 0) (N := 18) (T := TX1) (As := [vI l1]) (rest := [vI 0, .ref (xb x + l2)]) (o := 0) X hKS.2.1 (ConThr.toA (β := Unit) (v := fun _ => (fun _ => none, K, sz, g)) (con_x_strong K hW sz g l1 (.inl (0, s4_)) hc4) hm (hKS.here.kEw _ hm)) gwX0_strong_33 hdV_X1_strong ⟨Nat.le_of_ble_eq_true rfl, Nat.le_of_ble_eq_true rfl⟩ rfl (by decide) (hW.at 0 rfl) rfl rfl (Nat.le_of_ble_eq_true rfl) dX0_strong_4 rfl) X hX.2.2.2.1 hX.hA hX.2.2.2.2 [] (0, 9, 12, 31) [] rfl (fun _ h => nomatch h) (by decide) (by decide) q1135 q1150 (fun hKSc => ?_)
      have hK2 := hKS.kp hKSc hK2
      have hKS := hKS.tr hKSc
      have hWS := hKS.2.2.2.2 rfl
      have hW := hWS.1
      refine V_astore_n X dX0_strong_12 (by decide) (L' := [(3, .ref (xb x + sz)), (0, .ref (xb x + 0)), (1, vI l1), (2, .ref (xb x + l2))]) rfl ?_
      refine V_iconst X dX0_strong_13 ?_
      have hr := Option.some.inj h
      subst hr
      exact V_endA_i hX rfl hKS dX0_strong_14
    rw [if_neg he4_0] at h
    cases h
  replace h := thT_r h
  refine V_callV1 (ci := 0) (N := 18) (T := TX1) (As := [vI l1]) (rest := [vI 0, .ref (xb x + l2)]) (s1 := [vI y4.1, vI 0, .ref (xb x + l2)]) (o := 0) X (con_x_strong K hW sz g l1 (.inr y4) hc4) gwX0_strong_33 hdV_X1_strong ⟨Nat.le_of_ble_eq_true rfl, Nat.le_of_ble_eq_true rfl⟩ rfl (by decide) (hW.at 0 rfl) rfl rfl (Nat.le_of_ble_eq_true rfl) (limcc hKS.2.1) dX0_strong_4 rfl rfl ?_
  refine V_i2l X dX0_strong_7 ?_
  refine V_last (o := l2) (n := 1) X hK2 (by decide) dX0_strong_8 h (fun g8 h => ?_)
  refine V_goto (tgt := 15) X dX0_strong_9 (by decide) ?_
  refine V_iconst X dX0_strong_15 ?_
  have hr := Option.some.inj h
  subst hr
  exact V_endA_i hX rfl hKS dX0_strong_16
set_option maxHeartbeats 4000000 in
theorem con_xLaw0_bears (l2 : Nat) (K : Nat → Nat) (sz : Nat) (hKS : KS true K sz K sz) (hK2 : K l2 = 40001) (g : GS) (l1 : Int) (r : (Int × S3)) (h : xLaw0_bears l2 K sz g l1 = some r) : ConAW [(0, 9, 12, 13)] true sz yX0_bears cX0_bears 4 (some .int) 9 204 K (fun b => [.ref (b + 0), vI l1, .ref (b + l2)]) g (fun r => ((fun _ => some (vI r.1)), r.2)) (.inr r) := by
  refine ConAW.of RX0 (by decide) rfl (fun b => Nat.le_of_ble_eq_true rfl) (fun x hX hnm => ?_)
  have X := hX.1
  have h0K := hKS.2.2.1
  have hK2e := hK2
  have hWS := hKS.2.2.2.2 rfl
  have hW := hWS.1
  unfold xLaw0_bears at h
  show V x 4 K (sz - sz) (600 * (sz - sz)) sz g 0 [(0, .ref (xb x + 0)), (1, vI l1), (2, .ref (xb x + l2))] []
  refine V_aload_n X dX0_bears_0 2 rfl ?_
  refine V_iconst X dX0_bears_1 ?_
  refine V_aload_n X dX0_bears_2 0 rfl ?_
  refine V_iload_n X dX0_bears_3 1 rfl ?_
  obtain ⟨c4, hc4, h⟩ := bind_some_eq h
  rcases c4 with ⟨e4_, s4_⟩ | y4
  · replace h := thT_l h
    obtain ⟨hm, h⟩ := lim_some h
    by_cases he4_1 : e4_ = 1
    · rw [if_pos he4_1] at h
      rw [he4_1] at hc4
      refine RunA.catch (name := "java/lang/IllegalArgumentException") (runV_A (ci := 0) (N := 18) (T := TX1) (As := [vI l1]) (rest := [vI 0, .ref (xb x + l2)]) (o := 0) X hKS.2.1 (ConThr.toA (β := Unit) (v := fun _ => (fun _ => none, K, sz, g)) (con_x_bears K hW sz g l1 (.inl (1, s4_)) hc4) hm (hKS.here.kEw _ hm)) gwX0_bears_36 hdV_X1_bears ⟨Nat.le_of_ble_eq_true rfl, Nat.le_of_ble_eq_true rfl⟩ rfl (by decide) (hW.at 0 rfl) rfl rfl (Nat.le_of_ble_eq_true rfl) dX0_bears_4 rfl) X hX.2.2.2.1 hX.hA hX.2.2.2.2 [] (0, 9, 12, 13) [] rfl (fun _ h => nomatch h) (by decide) (by decide) q709 q721 (fun hKSc => ?_)
      have hK2 := hKS.kp hKSc hK2
      have hKS := hKS.tr hKSc
      have hWS := hKS.2.2.2.2 rfl
      have hW := hWS.1
      refine V_astore_n X dX0_bears_12 (by decide) (L' := [(3, .ref (xb x + sz)), (0, .ref (xb x + 0)), (1, vI l1), (2, .ref (xb x + l2))]) rfl ?_
      refine V_iconst X dX0_bears_13 ?_
      have hr := Option.some.inj h
      subst hr
      exact V_endA_i hX rfl hKS dX0_bears_14
    rw [if_neg he4_1] at h
    cases h
  replace h := thT_r h
  refine V_callV1 (ci := 0) (N := 18) (T := TX1) (As := [vI l1]) (rest := [vI 0, .ref (xb x + l2)]) (s1 := [vI y4.1, vI 0, .ref (xb x + l2)]) (o := 0) X (con_x_bears K hW sz g l1 (.inr y4) hc4) gwX0_bears_36 hdV_X1_bears ⟨Nat.le_of_ble_eq_true rfl, Nat.le_of_ble_eq_true rfl⟩ rfl (by decide) (hW.at 0 rfl) rfl rfl (Nat.le_of_ble_eq_true rfl) (limcc hKS.2.1) dX0_bears_4 rfl rfl ?_
  refine V_i2l X dX0_bears_7 ?_
  refine V_last (o := l2) (n := 1) X hK2 (by decide) dX0_bears_8 h (fun g8 h => ?_)
  refine V_goto (tgt := 15) X dX0_bears_9 (by decide) ?_
  refine V_iconst X dX0_bears_15 ?_
  have hr := Option.some.inj h
  subst hr
  exact V_endA_i hX rfl hKS dX0_bears_16
set_option maxHeartbeats 4000000 in
theorem con_xLaw0_rains (N : Nat) (l2 : Nat) (K : Nat → Nat) (sz : Nat) (hKS : KS true K sz K sz) (hK2 : K l2 = 40001) (g : GS) (l1 : Int) (r : (Int × S3)) (h : xLaw0_rains N l2 K sz g l1 = some r) : ConAW [(0, 16, 19, 13)] true sz yX0_rains cX0_rains 4 (some .int) 9 204 K (fun b => [.ref (b + 0), vI l1, .ref (b + l2)]) g (fun r => ((fun _ => some (vI r.1)), r.2)) (.inr r) := by
  refine ConAW.of RX0 (by decide) rfl (fun b => Nat.le_of_ble_eq_true rfl) (fun x hX hnm => ?_)
  have X := hX.1
  have h0K := hKS.2.2.1
  have hK2e := hK2
  have hWS := hKS.2.2.2.2 rfl
  have hW := hWS.1
  have J15 : ∀ (g : S3) (s0 : Int) (s1 : Int) (hKS : KS true K sz g.1 g.2.1), xLaw0_rains_j15 N l2 g s0 s1 = some r → V x 4 g.1 (g.2.1 - sz) (600 * (g.2.1 - sz)) g.2.1 g.2.2 15 [] [vL s0, vI s1, .ref (xb x + l2)] := by
    intro g s0 s1 hKS h
    unfold xLaw0_rains_j15 at h
    have hWS := hKS.2.2.2.2 rfl
    have hW := hWS.1
    have hK2 := hKS.keep h0K hK2e
    refine V_last (o := l2) (n := 1) X hK2 (by decide) dX0_rains_15 h (fun g15 h => ?_)
    refine V_goto (tgt := 22) X dX0_rains_16 (by decide) ?_
    refine V_iconst X dX0_rains_22 ?_
    have hr := Option.some.inj h
    subst hr
    exact V_endA_i hX rfl hKS dX0_rains_23
  unfold xLaw0_rains at h
  show V x 4 K (sz - sz) (600 * (sz - sz)) sz g 0 [(0, .ref (xb x + 0)), (1, vI l1), (2, .ref (xb x + l2))] []
  refine V_aload_n X dX0_rains_0 2 rfl ?_
  refine V_iconst X dX0_rains_1 ?_
  refine V_aload_n X dX0_rains_2 0 rfl ?_
  refine V_iload_n X dX0_rains_3 1 rfl ?_
  obtain ⟨c4, hc4, h⟩ := bind_some_eq h
  rcases c4 with ⟨e4_, s4_⟩ | y4
  · replace h := thT_l h
    obtain ⟨hm, h⟩ := lim_some h
    by_cases he4_1 : e4_ = 1
    · rw [if_pos he4_1] at h
      rw [he4_1] at hc4
      refine RunA.catch (name := "java/lang/IllegalArgumentException") (runV_A (ci := 0) (N := 18) (T := TX1) (As := [vI l1]) (rest := [vI 0, .ref (xb x + l2)]) (o := 0) X hKS.2.1 (ConThr.toA (β := Unit) (v := fun _ => (fun _ => none, K, sz, g)) (con_x_rains K hW N sz g l1 (.inl (1, s4_)) hc4) hm (hKS.here.kEw _ hm)) gwX0_rains_39 hdV_X1_rains ⟨Nat.le_of_ble_eq_true rfl, Nat.le_of_ble_eq_true rfl⟩ rfl (by decide) (hW.at 0 rfl) rfl rfl (Nat.le_of_ble_eq_true rfl) dX0_rains_4 rfl) X hX.2.2.2.1 hX.hA hX.2.2.2.2 [] (0, 16, 19, 13) [] rfl (fun _ h => nomatch h) (by decide) (by decide) q709 q721 (fun hKSc => ?_)
      have hK2 := hKS.kp hKSc hK2
      have hKS := hKS.tr hKSc
      have hWS := hKS.2.2.2.2 rfl
      have hW := hWS.1
      refine V_astore_n X dX0_rains_19 (by decide) (L' := [(3, .ref (xb x + sz)), (0, .ref (xb x + 0)), (1, vI l1), (2, .ref (xb x + l2))]) rfl ?_
      refine V_iconst X dX0_rains_20 ?_
      have hr := Option.some.inj h
      subst hr
      exact V_endA_i hX rfl hKS dX0_rains_21
    rw [if_neg he4_1] at h
    cases h
  replace h := thT_r h
  refine V_callV1 (ci := 0) (N := 18) (T := TX1) (As := [vI l1]) (rest := [vI 0, .ref (xb x + l2)]) (s1 := [vI y4.1, vI 0, .ref (xb x + l2)]) (o := 0) X (con_x_rains K hW N sz g l1 (.inr y4) hc4) gwX0_rains_39 hdV_X1_rains ⟨Nat.le_of_ble_eq_true rfl, Nat.le_of_ble_eq_true rfl⟩ rfl (by decide) (hW.at 0 rfl) rfl rfl (Nat.le_of_ble_eq_true rfl) (limcc hKS.2.1) dX0_rains_4 rfl rfl ?_
  refine V_if_eq (tgt := 14) X dX0_rains_7 (by decide) h (fun h => ?_) (fun h => ?_)
  · refine V_lconst X (a := 0) dX0_rains_14 (by decide) ?_
    exact V_sub [] rfl (J15 _ _ _ hKS h)
  · refine V_lconst X (a := 1) dX0_rains_10 (by decide) ?_
    refine V_goto (tgt := 15) X dX0_rains_11 (by decide) ?_
    exact V_sub [] rfl (J15 _ _ _ hKS h)
set_option maxHeartbeats 4000000 in
theorem con_xLaw0_would (l7 : Nat) (K : Nat → Nat) (sz : Nat) (hKS : KS true K sz K sz) (hK7 : K l7 = 40001) (g : GS) (l1 : Int) (l2 : Int) (l3 : Int) (l4 : Int) (l5 : Int) (l6 : Int) (r : (Int × S3)) (h : xLaw0_would l7 K sz g l1 l2 l3 l4 l5 l6 = some r) : ConAW [(0, 18, 21, 13)] true sz yX0_would cX0_would 9 (some .int) 208 4968 K (fun b => [.ref (b + 0), vI l1, vI l2, vI l3, vI l4, vI l5, vI l6, .ref (b + l7)]) g (fun r => ((fun _ => some (vI r.1)), r.2)) (.inr r) := by
  refine ConAW.of RX0 (by decide) rfl (fun b => Nat.le_of_ble_eq_true rfl) (fun x hX hnm => ?_)
  have X := hX.1
  have h0K := hKS.2.2.1
  have hK7e := hK7
  have hWS := hKS.2.2.2.2 rfl
  have hW := hWS.1
  unfold xLaw0_would at h
  show V x 9 K (sz - sz) (600 * (sz - sz)) sz g 0 [(0, .ref (xb x + 0)), (1, vI l1), (2, vI l2), (3, vI l3), (4, vI l4), (5, vI l5), (6, vI l6), (7, .ref (xb x + l7))] []
  refine V_aload X dX0_would_0 7 rfl ?_
  refine V_iconst X dX0_would_2 ?_
  refine V_aload_n X dX0_would_3 0 rfl ?_
  refine V_iload_n X dX0_would_4 1 rfl ?_
  refine V_iload_n X dX0_would_5 2 rfl ?_
  refine V_iload_n X dX0_would_6 3 rfl ?_
  refine V_iload X dX0_would_7 4 rfl ?_
  refine V_iload X dX0_would_9 5 rfl ?_
  refine V_iload X dX0_would_11 6 rfl ?_
  obtain ⟨c13, hc13, h⟩ := bind_some_eq h
  rcases c13 with ⟨e13_, s13_⟩ | y13
  · replace h := thT_l h
    dsimp only at h
    by_cases he13_1 : e13_ = 1
    · rw [if_pos he13_1] at h
      rw [he13_1] at hc13
      refine RunA.catch (name := "java/lang/IllegalArgumentException") (runV_A (ci := 0) (N := 18) (T := TX1) (As := [vI l1, vI l2, vI l3, vI l4, vI l5, vI l6]) (rest := [vI 0, .ref (xb x + l7)]) (o := 0) X hKS.2.1 (con_x_would K sz hKS.here g l1 l2 l3 l4 l5 l6 (.inl (1, s13_)) hc13) gwX0_would_43 hdV_X1_would ⟨Nat.le_of_ble_eq_true rfl, Nat.le_of_ble_eq_true rfl⟩ rfl (by decide) (hW.at 0 rfl) rfl rfl (Nat.le_of_ble_eq_true rfl) dX0_would_13 rfl) X hX.2.2.2.1 hX.hA hX.2.2.2.2 [] (0, 18, 21, 13) [] rfl (fun _ h => nomatch h) (by decide) (by decide) q709 q721 (fun hKSc => ?_)
      have hK7 := hKS.kp hKSc hK7
      have hKS := hKS.tr hKSc
      have hWS := hKS.2.2.2.2 rfl
      have hW := hWS.1
      refine V_astore X dX0_would_21 (by decide) (L' := [(8, .ref (xb x + (s13_.2.1 - 1))), (0, .ref (xb x + 0)), (1, vI l1), (2, vI l2), (3, vI l3), (4, vI l4), (5, vI l5), (6, vI l6), (7, .ref (xb x + l7))]) rfl ?_
      refine V_iconst X dX0_would_23 ?_
      have hr := Option.some.inj h
      subst hr
      exact V_endA_i hX rfl hKS dX0_would_24
    rw [if_neg he13_1] at h
    cases h
  replace h := thT_r h
  refine RunA.back (s1 := [vI y13.1, vI 0, .ref (xb x + l7)]) (runV_A (ci := 0) (N := 18) (T := TX1) (As := [vI l1, vI l2, vI l3, vI l4, vI l5, vI l6]) (rest := [vI 0, .ref (xb x + l7)]) (o := 0) X hKS.2.1 (con_x_would K sz hKS.here g l1 l2 l3 l4 l5 l6 (.inr y13) hc13) gwX0_would_43 hdV_X1_would ⟨Nat.le_of_ble_eq_true rfl, Nat.le_of_ble_eq_true rfl⟩ rfl (by decide) (hW.at 0 rfl) rfl rfl (Nat.le_of_ble_eq_true rfl) dX0_would_13 rfl) X hX.2.2.2.1 hX.hA rfl (fun hKSc => ?_)
  have hK7 := hKS.kp hKSc hK7
  have hKS := hKS.tr hKSc
  have hWS := hKS.2.2.2.2 rfl
  have hW := hWS.1
  refine V_i2l X dX0_would_16 ?_
  refine V_last (o := l7) (n := 1) X hK7 (by decide) dX0_would_17 h (fun g17 h => ?_)
  refine V_goto (tgt := 25) X dX0_would_18 (by decide) ?_
  refine V_iconst X dX0_would_25 ?_
  have hr := Option.some.inj h
  subst hr
  exact V_endA_i hX rfl hKS dX0_would_26
set_option maxHeartbeats 4000000 in
theorem con_xLaw0_line (N : Nat) (l3 : Nat) (K : Nat → Nat) (sz : Nat) (hKS : KS true K sz K sz) (hK3 : K l3 = 40001) (g : GS) (l1 : Int) (l2 : Int) (r : (Int × S3)) (h : xLaw0_line N l3 K sz g l1 l2 = some r) : ConAW [(0, 10, 13, 31), (0, 10, 17, 13)] true sz yX0_line cX0_line 5 (some .int) 212 5055 K (fun b => [.ref (b + 0), vI l1, vI l2, .ref (b + l3)]) g (fun r => ((fun _ => some (vI r.1)), r.2)) (.inr r) := by
  refine ConAW.of RX0 (by decide) rfl (fun b => Nat.le_of_ble_eq_true rfl) (fun x hX hnm => ?_)
  have X := hX.1
  have h0K := hKS.2.2.1
  have hK3e := hK3
  have hWS := hKS.2.2.2.2 rfl
  have hW := hWS.1
  unfold xLaw0_line at h
  show V x 5 K (sz - sz) (600 * (sz - sz)) sz g 0 [(0, .ref (xb x + 0)), (1, vI l1), (2, vI l2), (3, .ref (xb x + l3))] []
  refine V_aload_n X dX0_line_0 3 rfl ?_
  refine V_iconst X dX0_line_1 ?_
  refine V_aload_n X dX0_line_2 0 rfl ?_
  refine V_iload_n X dX0_line_3 1 rfl ?_
  refine V_iload_n X dX0_line_4 2 rfl ?_
  obtain ⟨c5, hc5, h⟩ := bind_some_eq h
  rcases c5 with ⟨e5_, s5_⟩ | y5
  · replace h := thT_l h
    obtain ⟨hm, h⟩ := lim_some h
    by_cases he5_0 : e5_ = 0
    · rw [if_pos he5_0] at h
      rw [he5_0] at hc5
      refine RunA.catch (name := "java/util/NoSuchElementException") (runV_A (ci := 0) (N := 18) (T := TX1) (As := [vI l1, vI l2]) (rest := [vI 0, .ref (xb x + l3)]) (o := 0) X hKS.2.1 (ConThr.toA (β := Unit) (v := fun _ => (fun _ => none, K, sz, g)) (con_x_line K hW N sz g l1 l2 (.inl (0, s5_)) hc5) hm (hKS.here.kEw _ hm)) gwX0_line_47 hdV_X1_line ⟨Nat.le_of_ble_eq_true rfl, Nat.le_of_ble_eq_true rfl⟩ rfl (by decide) (hW.at 0 rfl) rfl rfl (Nat.le_of_ble_eq_true rfl) dX0_line_5 rfl) X hX.2.2.2.1 hX.hA hX.2.2.2.2 [] (0, 10, 13, 31) [(0, 10, 17, 13)] rfl (fun _ h => nomatch h) (by decide) (by decide) q1135 q1150 (fun hKSc => ?_)
      have hK3 := hKS.kp hKSc hK3
      have hKS := hKS.tr hKSc
      have hWS := hKS.2.2.2.2 rfl
      have hW := hWS.1
      refine V_astore X dX0_line_13 (by decide) (L' := [(4, .ref (xb x + sz)), (0, .ref (xb x + 0)), (1, vI l1), (2, vI l2), (3, .ref (xb x + l3))]) rfl ?_
      refine V_iconst X dX0_line_15 ?_
      have hr := Option.some.inj h
      subst hr
      exact V_endA_i hX rfl hKS dX0_line_16
    rw [if_neg he5_0] at h
    by_cases he5_1 : e5_ = 1
    · rw [if_pos he5_1] at h
      rw [he5_1] at hc5
      refine RunA.catch (name := "java/lang/IllegalArgumentException") (runV_A (ci := 0) (N := 18) (T := TX1) (As := [vI l1, vI l2]) (rest := [vI 0, .ref (xb x + l3)]) (o := 0) X hKS.2.1 (ConThr.toA (β := Unit) (v := fun _ => (fun _ => none, K, sz, g)) (con_x_line K hW N sz g l1 l2 (.inl (1, s5_)) hc5) hm (hKS.here.kEw _ hm)) gwX0_line_47 hdV_X1_line ⟨Nat.le_of_ble_eq_true rfl, Nat.le_of_ble_eq_true rfl⟩ rfl (by decide) (hW.at 0 rfl) rfl rfl (Nat.le_of_ble_eq_true rfl) dX0_line_5 rfl) X hX.2.2.2.1 hX.hA hX.2.2.2.2 [(0, 10, 13, 31)] (0, 10, 17, 13) [] rfl (fun q hq => by cases List.mem_singleton.mp hq; exact Or.inr ⟨by decide, "java/util/NoSuchElementException", q1135, (xok_sf X).nc _ nc_1_0⟩) (by decide) (by decide) q709 q721 (fun hKSc => ?_)
      have hK3 := hKS.kp hKSc hK3
      have hKS := hKS.tr hKSc
      have hWS := hKS.2.2.2.2 rfl
      have hW := hWS.1
      refine V_astore X dX0_line_17 (by decide) (L' := [(4, .ref (xb x + sz)), (0, .ref (xb x + 0)), (1, vI l1), (2, vI l2), (3, .ref (xb x + l3))]) rfl ?_
      refine V_iconst X dX0_line_19 ?_
      have hr := Option.some.inj h
      subst hr
      exact V_endA_i hX rfl hKS dX0_line_20
    rw [if_neg he5_1] at h
    cases h
  replace h := thT_r h
  refine V_callV1 (ci := 0) (N := 18) (T := TX1) (As := [vI l1, vI l2]) (rest := [vI 0, .ref (xb x + l3)]) (s1 := [vI y5.1, vI 0, .ref (xb x + l3)]) (o := 0) X (con_x_line K hW N sz g l1 l2 (.inr y5) hc5) gwX0_line_47 hdV_X1_line ⟨Nat.le_of_ble_eq_true rfl, Nat.le_of_ble_eq_true rfl⟩ rfl (by decide) (hW.at 0 rfl) rfl rfl (Nat.le_of_ble_eq_true rfl) (limcc hKS.2.1) dX0_line_5 rfl rfl ?_
  refine V_i2l X dX0_line_8 ?_
  refine V_last (o := l3) (n := 1) X hK3 (by decide) dX0_line_9 h (fun g9 h => ?_)
  refine V_goto (tgt := 21) X dX0_line_10 (by decide) ?_
  refine V_iconst X dX0_line_21 ?_
  have hr := Option.some.inj h
  subst hr
  exact V_endA_i hX rfl hKS dX0_line_22
set_option maxHeartbeats 4000000 in
theorem con_xLaw0_wet (N : Nat) (l2 : Nat) (K : Nat → Nat) (sz : Nat) (hKS : KS true K sz K sz) (hK2 : K l2 = 40001) (g : GS) (l1 : Int) (r : (Int × S3)) (h : xLaw0_wet N l2 K sz g l1 = some r) : ConAW [(0, 9, 12, 31)] true sz yX0_wet cX0_wet 4 (some .int) 212 5054 K (fun b => [.ref (b + 0), vI l1, .ref (b + l2)]) g (fun r => ((fun _ => some (vI r.1)), r.2)) (.inr r) := by
  refine ConAW.of RX0 (by decide) rfl (fun b => Nat.le_of_ble_eq_true rfl) (fun x hX hnm => ?_)
  have X := hX.1
  have h0K := hKS.2.2.1
  have hK2e := hK2
  have hWS := hKS.2.2.2.2 rfl
  have hW := hWS.1
  unfold xLaw0_wet at h
  show V x 4 K (sz - sz) (600 * (sz - sz)) sz g 0 [(0, .ref (xb x + 0)), (1, vI l1), (2, .ref (xb x + l2))] []
  refine V_aload_n X dX0_wet_0 2 rfl ?_
  refine V_iconst X dX0_wet_1 ?_
  refine V_aload_n X dX0_wet_2 0 rfl ?_
  refine V_iload_n X dX0_wet_3 1 rfl ?_
  obtain ⟨c4, hc4, h⟩ := bind_some_eq h
  rcases c4 with ⟨e4_, s4_⟩ | y4
  · replace h := thT_l h
    obtain ⟨hm, h⟩ := lim_some h
    by_cases he4_0 : e4_ = 0
    · rw [if_pos he4_0] at h
      rw [he4_0] at hc4
      refine RunA.catch (name := "java/util/NoSuchElementException") (runV_A (ci := 0) (N := 18) (T := TX1) (As := [vI l1]) (rest := [vI 0, .ref (xb x + l2)]) (o := 0) X hKS.2.1 (ConThr.toA (β := Unit) (v := fun _ => (fun _ => none, K, sz, g)) (con_x_wet K hW N sz g l1 (.inl (0, s4_)) hc4) hm (hKS.here.kEw _ hm)) gwX0_wet_50 hdV_X1_wet ⟨Nat.le_of_ble_eq_true rfl, Nat.le_of_ble_eq_true rfl⟩ rfl (by decide) (hW.at 0 rfl) rfl rfl (Nat.le_of_ble_eq_true rfl) dX0_wet_4 rfl) X hX.2.2.2.1 hX.hA hX.2.2.2.2 [] (0, 9, 12, 31) [] rfl (fun _ h => nomatch h) (by decide) (by decide) q1135 q1150 (fun hKSc => ?_)
      have hK2 := hKS.kp hKSc hK2
      have hKS := hKS.tr hKSc
      have hWS := hKS.2.2.2.2 rfl
      have hW := hWS.1
      refine V_astore_n X dX0_wet_12 (by decide) (L' := [(3, .ref (xb x + sz)), (0, .ref (xb x + 0)), (1, vI l1), (2, .ref (xb x + l2))]) rfl ?_
      refine V_iconst X dX0_wet_13 ?_
      have hr := Option.some.inj h
      subst hr
      exact V_endA_i hX rfl hKS dX0_wet_14
    rw [if_neg he4_0] at h
    cases h
  replace h := thT_r h
  refine V_callV1 (ci := 0) (N := 18) (T := TX1) (As := [vI l1]) (rest := [vI 0, .ref (xb x + l2)]) (s1 := [vI y4.1, vI 0, .ref (xb x + l2)]) (o := 0) X (con_x_wet K hW N sz g l1 (.inr y4) hc4) gwX0_wet_50 hdV_X1_wet ⟨Nat.le_of_ble_eq_true rfl, Nat.le_of_ble_eq_true rfl⟩ rfl (by decide) (hW.at 0 rfl) rfl rfl (Nat.le_of_ble_eq_true rfl) (limcc hKS.2.1) dX0_wet_4 rfl rfl ?_
  refine V_i2l X dX0_wet_7 ?_
  refine V_last (o := l2) (n := 1) X hK2 (by decide) dX0_wet_8 h (fun g8 h => ?_)
  refine V_goto (tgt := 15) X dX0_wet_9 (by decide) ?_
  refine V_iconst X dX0_wet_15 ?_
  have hr := Option.some.inj h
  subst hr
  exact V_endA_i hX rfl hKS dX0_wet_16
set_option maxHeartbeats 4000000 in
theorem con_xLaw0_idle (N : Nat) (l2 : Nat) (K : Nat → Nat) (sz : Nat) (hKS : KS true K sz K sz) (hK2 : K l2 = 40001) (g : GS) (l1 : Int) (r : (Int × S3)) (h : xLaw0_idle N l2 K sz g l1 = some r) : ConAW [(0, 9, 12, 31)] true sz yX0_idle cX0_idle 4 (some .int) 212 5054 K (fun b => [.ref (b + 0), vI l1, .ref (b + l2)]) g (fun r => ((fun _ => some (vI r.1)), r.2)) (.inr r) := by
  refine ConAW.of RX0 (by decide) rfl (fun b => Nat.le_of_ble_eq_true rfl) (fun x hX hnm => ?_)
  have X := hX.1
  have h0K := hKS.2.2.1
  have hK2e := hK2
  have hWS := hKS.2.2.2.2 rfl
  have hW := hWS.1
  unfold xLaw0_idle at h
  show V x 4 K (sz - sz) (600 * (sz - sz)) sz g 0 [(0, .ref (xb x + 0)), (1, vI l1), (2, .ref (xb x + l2))] []
  refine V_aload_n X dX0_idle_0 2 rfl ?_
  refine V_iconst X dX0_idle_1 ?_
  refine V_aload_n X dX0_idle_2 0 rfl ?_
  refine V_iload_n X dX0_idle_3 1 rfl ?_
  obtain ⟨c4, hc4, h⟩ := bind_some_eq h
  rcases c4 with ⟨e4_, s4_⟩ | y4
  · replace h := thT_l h
    obtain ⟨hm, h⟩ := lim_some h
    by_cases he4_0 : e4_ = 0
    · rw [if_pos he4_0] at h
      rw [he4_0] at hc4
      refine RunA.catch (name := "java/util/NoSuchElementException") (runV_A (ci := 0) (N := 18) (T := TX1) (As := [vI l1]) (rest := [vI 0, .ref (xb x + l2)]) (o := 0) X hKS.2.1 (ConThr.toA (β := Unit) (v := fun _ => (fun _ => none, K, sz, g)) (con_x_idle K hW N sz g l1 (.inl (0, s4_)) hc4) hm (hKS.here.kEw _ hm)) gwX0_idle_53 hdV_X1_idle ⟨Nat.le_of_ble_eq_true rfl, Nat.le_of_ble_eq_true rfl⟩ rfl (by decide) (hW.at 0 rfl) rfl rfl (Nat.le_of_ble_eq_true rfl) dX0_idle_4 rfl) X hX.2.2.2.1 hX.hA hX.2.2.2.2 [] (0, 9, 12, 31) [] rfl (fun _ h => nomatch h) (by decide) (by decide) q1135 q1150 (fun hKSc => ?_)
      have hK2 := hKS.kp hKSc hK2
      have hKS := hKS.tr hKSc
      have hWS := hKS.2.2.2.2 rfl
      have hW := hWS.1
      refine V_astore_n X dX0_idle_12 (by decide) (L' := [(3, .ref (xb x + sz)), (0, .ref (xb x + 0)), (1, vI l1), (2, .ref (xb x + l2))]) rfl ?_
      refine V_iconst X dX0_idle_13 ?_
      have hr := Option.some.inj h
      subst hr
      exact V_endA_i hX rfl hKS dX0_idle_14
    rw [if_neg he4_0] at h
    cases h
  replace h := thT_r h
  refine V_callV1 (ci := 0) (N := 18) (T := TX1) (As := [vI l1]) (rest := [vI 0, .ref (xb x + l2)]) (s1 := [vI y4.1, vI 0, .ref (xb x + l2)]) (o := 0) X (con_x_idle K hW N sz g l1 (.inr y4) hc4) gwX0_idle_53 hdV_X1_idle ⟨Nat.le_of_ble_eq_true rfl, Nat.le_of_ble_eq_true rfl⟩ rfl (by decide) (hW.at 0 rfl) rfl rfl (Nat.le_of_ble_eq_true rfl) (limcc hKS.2.1) dX0_idle_4 rfl rfl ?_
  refine V_i2l X dX0_idle_7 ?_
  refine V_last (o := l2) (n := 1) X hK2 (by decide) dX0_idle_8 h (fun g8 h => ?_)
  refine V_goto (tgt := 15) X dX0_idle_9 (by decide) ?_
  refine V_iconst X dX0_idle_15 ?_
  have hr := Option.some.inj h
  subst hr
  exact V_endA_i hX rfl hKS dX0_idle_16
set_option maxHeartbeats 4000000 in
theorem con_xLaw0_slack (N : Nat) (l2 : Nat) (K : Nat → Nat) (sz : Nat) (hKS : KS true K sz K sz) (hK2 : K l2 = 40001) (g : GS) (l1 : Int) (r : (Int × S3)) (h : xLaw0_slack N l2 K sz g l1 = some r) : ConAW [(0, 9, 12, 31)] true sz yX0_slack cX0_slack 4 (some .int) 213 5078 K (fun b => [.ref (b + 0), vI l1, .ref (b + l2)]) g (fun r => ((fun _ => some (vI r.1)), r.2)) (.inr r) := by
  refine ConAW.of RX0 (by decide) rfl (fun b => Nat.le_of_ble_eq_true rfl) (fun x hX hnm => ?_)
  have X := hX.1
  have h0K := hKS.2.2.1
  have hK2e := hK2
  have hWS := hKS.2.2.2.2 rfl
  have hW := hWS.1
  unfold xLaw0_slack at h
  show V x 4 K (sz - sz) (600 * (sz - sz)) sz g 0 [(0, .ref (xb x + 0)), (1, vI l1), (2, .ref (xb x + l2))] []
  refine V_aload_n X dX0_slack_0 2 rfl ?_
  refine V_iconst X dX0_slack_1 ?_
  refine V_aload_n X dX0_slack_2 0 rfl ?_
  refine V_iload_n X dX0_slack_3 1 rfl ?_
  obtain ⟨c4, hc4, h⟩ := bind_some_eq h
  rcases c4 with ⟨e4_, s4_⟩ | y4
  · replace h := thT_l h
    obtain ⟨hm, h⟩ := lim_some h
    by_cases he4_0 : e4_ = 0
    · rw [if_pos he4_0] at h
      rw [he4_0] at hc4
      refine RunA.catch (name := "java/util/NoSuchElementException") (runV_A (ci := 0) (N := 18) (T := TX1) (As := [vI l1]) (rest := [vI 0, .ref (xb x + l2)]) (o := 0) X hKS.2.1 (ConThr.toA (β := Unit) (v := fun _ => (fun _ => none, K, sz, g)) (con_x_slack K hW N sz g l1 (.inl (0, s4_)) hc4) hm (hKS.here.kEw _ hm)) gwX0_slack_56 hdV_X1_slack ⟨Nat.le_of_ble_eq_true rfl, Nat.le_of_ble_eq_true rfl⟩ rfl (by decide) (hW.at 0 rfl) rfl rfl (Nat.le_of_ble_eq_true rfl) dX0_slack_4 rfl) X hX.2.2.2.1 hX.hA hX.2.2.2.2 [] (0, 9, 12, 31) [] rfl (fun _ h => nomatch h) (by decide) (by decide) q1135 q1150 (fun hKSc => ?_)
      have hK2 := hKS.kp hKSc hK2
      have hKS := hKS.tr hKSc
      have hWS := hKS.2.2.2.2 rfl
      have hW := hWS.1
      refine V_astore_n X dX0_slack_12 (by decide) (L' := [(3, .ref (xb x + sz)), (0, .ref (xb x + 0)), (1, vI l1), (2, .ref (xb x + l2))]) rfl ?_
      refine V_iconst X dX0_slack_13 ?_
      have hr := Option.some.inj h
      subst hr
      exact V_endA_i hX rfl hKS dX0_slack_14
    rw [if_neg he4_0] at h
    cases h
  replace h := thT_r h
  refine V_callV1 (ci := 0) (N := 18) (T := TX1) (As := [vI l1]) (rest := [vI 0, .ref (xb x + l2)]) (s1 := [vI y4.1, vI 0, .ref (xb x + l2)]) (o := 0) X (con_x_slack K hW N sz g l1 (.inr y4) hc4) gwX0_slack_56 hdV_X1_slack ⟨Nat.le_of_ble_eq_true rfl, Nat.le_of_ble_eq_true rfl⟩ rfl (by decide) (hW.at 0 rfl) rfl rfl (Nat.le_of_ble_eq_true rfl) (limcc hKS.2.1) dX0_slack_4 rfl rfl ?_
  refine V_i2l X dX0_slack_7 ?_
  refine V_last (o := l2) (n := 1) X hK2 (by decide) dX0_slack_8 h (fun g8 h => ?_)
  refine V_goto (tgt := 15) X dX0_slack_9 (by decide) ?_
  refine V_iconst X dX0_slack_15 ?_
  have hr := Option.some.inj h
  subst hr
  exact V_endA_i hX rfl hKS dX0_slack_16
set_option maxHeartbeats 4000000 in
theorem con_xLaw0_ahead (N : Nat) (l2 : Nat) (K : Nat → Nat) (sz : Nat) (hKS : KS true K sz K sz) (hK2 : K l2 = 40001) (g : GS) (l1 : Int) (r : (Int × S3)) (h : xLaw0_ahead N l2 K sz g l1 = some r) : ConAW [(0, 9, 12, 31)] true sz yX0_ahead cX0_ahead 4 (some .int) 10 224 K (fun b => [.ref (b + 0), vI l1, .ref (b + l2)]) g (fun r => ((fun _ => some (vI r.1)), r.2)) (.inr r) := by
  refine ConAW.of RX0 (by decide) rfl (fun b => Nat.le_of_ble_eq_true rfl) (fun x hX hnm => ?_)
  have X := hX.1
  have h0K := hKS.2.2.1
  have hK2e := hK2
  have hWS := hKS.2.2.2.2 rfl
  have hW := hWS.1
  unfold xLaw0_ahead at h
  show V x 4 K (sz - sz) (600 * (sz - sz)) sz g 0 [(0, .ref (xb x + 0)), (1, vI l1), (2, .ref (xb x + l2))] []
  refine V_aload_n X dX0_ahead_0 2 rfl ?_
  refine V_iconst X dX0_ahead_1 ?_
  refine V_aload_n X dX0_ahead_2 0 rfl ?_
  refine V_iload_n X dX0_ahead_3 1 rfl ?_
  obtain ⟨c4, hc4, h⟩ := bind_some_eq h
  rcases c4 with ⟨e4_, s4_⟩ | y4
  · replace h := thT_l h
    obtain ⟨hm, h⟩ := lim_some h
    by_cases he4_0 : e4_ = 0
    · rw [if_pos he4_0] at h
      rw [he4_0] at hc4
      refine RunA.catch (name := "java/util/NoSuchElementException") (runV_A (ci := 0) (N := 18) (T := TX1) (As := [vI l1]) (rest := [vI 0, .ref (xb x + l2)]) (o := 0) X hKS.2.1 (ConThr.toA (β := Unit) (v := fun _ => (fun _ => none, K, sz, g)) (con_x_ahead K hW N sz g l1 (.inl (0, s4_)) hc4) hm (hKS.here.kEw _ hm)) gwX0_ahead_59 hdV_X1_ahead ⟨Nat.le_of_ble_eq_true rfl, Nat.le_of_ble_eq_true rfl⟩ rfl (by decide) (hW.at 0 rfl) rfl rfl (Nat.le_of_ble_eq_true rfl) dX0_ahead_4 rfl) X hX.2.2.2.1 hX.hA hX.2.2.2.2 [] (0, 9, 12, 31) [] rfl (fun _ h => nomatch h) (by decide) (by decide) q1135 q1150 (fun hKSc => ?_)
      have hK2 := hKS.kp hKSc hK2
      have hKS := hKS.tr hKSc
      have hWS := hKS.2.2.2.2 rfl
      have hW := hWS.1
      refine V_astore_n X dX0_ahead_12 (by decide) (L' := [(3, .ref (xb x + sz)), (0, .ref (xb x + 0)), (1, vI l1), (2, .ref (xb x + l2))]) rfl ?_
      refine V_iconst X dX0_ahead_13 ?_
      have hr := Option.some.inj h
      subst hr
      exact V_endA_i hX rfl hKS dX0_ahead_14
    rw [if_neg he4_0] at h
    cases h
  replace h := thT_r h
  refine V_callV1 (ci := 0) (N := 18) (T := TX1) (As := [vI l1]) (rest := [vI 0, .ref (xb x + l2)]) (s1 := [vI y4.1, vI 0, .ref (xb x + l2)]) (o := 0) X (con_x_ahead K hW N sz g l1 (.inr y4) hc4) gwX0_ahead_59 hdV_X1_ahead ⟨Nat.le_of_ble_eq_true rfl, Nat.le_of_ble_eq_true rfl⟩ rfl (by decide) (hW.at 0 rfl) rfl rfl (Nat.le_of_ble_eq_true rfl) (limcc hKS.2.1) dX0_ahead_4 rfl rfl ?_
  refine V_i2l X dX0_ahead_7 ?_
  refine V_last (o := l2) (n := 1) X hK2 (by decide) dX0_ahead_8 h (fun g8 h => ?_)
  refine V_goto (tgt := 15) X dX0_ahead_9 (by decide) ?_
  refine V_iconst X dX0_ahead_15 ?_
  have hr := Option.some.inj h
  subst hr
  exact V_endA_i hX rfl hKS dX0_ahead_16
set_option maxHeartbeats 4000000 in
theorem con_xLaw0_chain (N : Nat) (l2 : Nat) (K : Nat → Nat) (sz : Nat) (hKS : KS true K sz K sz) (hK2 : K l2 = 40001) (g : GS) (l1 : Int) (r : (Int × S3)) (h : xLaw0_chain N l2 K sz g l1 = some r) : ConAW [(0, 9, 12, 31)] true sz yX0_chain cX0_chain 4 (some .int) 50 1644 K (fun b => [.ref (b + 0), vI l1, .ref (b + l2)]) g (fun r => ((fun _ => some (vI r.1)), r.2)) (.inr r) := by
  refine ConAW.of RX0 (by decide) rfl (fun b => Nat.le_of_ble_eq_true rfl) (fun x hX hnm => ?_)
  have X := hX.1
  have h0K := hKS.2.2.1
  have hK2e := hK2
  have hWS := hKS.2.2.2.2 rfl
  have hW := hWS.1
  unfold xLaw0_chain at h
  show V x 4 K (sz - sz) (600 * (sz - sz)) sz g 0 [(0, .ref (xb x + 0)), (1, vI l1), (2, .ref (xb x + l2))] []
  refine V_aload_n X dX0_chain_0 2 rfl ?_
  refine V_iconst X dX0_chain_1 ?_
  refine V_aload_n X dX0_chain_2 0 rfl ?_
  refine V_iload_n X dX0_chain_3 1 rfl ?_
  obtain ⟨c4, hc4, h⟩ := bind_some_eq h
  rcases c4 with ⟨e4_, s4_⟩ | y4
  · replace h := thT_l h
    obtain ⟨hm, h⟩ := lim_some h
    by_cases he4_0 : e4_ = 0
    · rw [if_pos he4_0] at h
      rw [he4_0] at hc4
      refine RunA.catch (name := "java/util/NoSuchElementException") (runV_A (ci := 0) (N := 18) (T := TX1) (As := [vI l1]) (rest := [vI 0, .ref (xb x + l2)]) (o := 0) X hKS.2.1 (ConThr.toA (β := Unit) (v := fun _ => (fun _ => none, K, sz, g)) (con_x_chain K hW N sz g l1 (.inl (0, s4_)) hc4) hm (hKS.here.kEw _ hm)) gwX0_chain_62 hdV_X1_chain ⟨Nat.le_of_ble_eq_true rfl, Nat.le_of_ble_eq_true rfl⟩ rfl (by decide) (hW.at 0 rfl) rfl rfl (Nat.le_of_ble_eq_true rfl) dX0_chain_4 rfl) X hX.2.2.2.1 hX.hA hX.2.2.2.2 [] (0, 9, 12, 31) [] rfl (fun _ h => nomatch h) (by decide) (by decide) q1135 q1150 (fun hKSc => ?_)
      have hK2 := hKS.kp hKSc hK2
      have hKS := hKS.tr hKSc
      have hWS := hKS.2.2.2.2 rfl
      have hW := hWS.1
      refine V_astore_n X dX0_chain_12 (by decide) (L' := [(3, .ref (xb x + sz)), (0, .ref (xb x + 0)), (1, vI l1), (2, .ref (xb x + l2))]) rfl ?_
      refine V_iconst X dX0_chain_13 ?_
      have hr := Option.some.inj h
      subst hr
      exact V_endA_i hX rfl hKS dX0_chain_14
    rw [if_neg he4_0] at h
    cases h
  replace h := thT_r h
  refine V_callV1 (ci := 0) (N := 18) (T := TX1) (As := [vI l1]) (rest := [vI 0, .ref (xb x + l2)]) (s1 := [vI y4.1, vI 0, .ref (xb x + l2)]) (o := 0) X (con_x_chain K hW N sz g l1 (.inr y4) hc4) gwX0_chain_62 hdV_X1_chain ⟨Nat.le_of_ble_eq_true rfl, Nat.le_of_ble_eq_true rfl⟩ rfl (by decide) (hW.at 0 rfl) rfl rfl (Nat.le_of_ble_eq_true rfl) (limcc hKS.2.1) dX0_chain_4 rfl rfl ?_
  refine V_i2l X dX0_chain_7 ?_
  refine V_last (o := l2) (n := 1) X hK2 (by decide) dX0_chain_8 h (fun g8 h => ?_)
  refine V_goto (tgt := 15) X dX0_chain_9 (by decide) ?_
  refine V_iconst X dX0_chain_15 ?_
  have hr := Option.some.inj h
  subst hr
  exact V_endA_i hX rfl hKS dX0_chain_16
set_option maxHeartbeats 4000000 in
theorem con_xLaw0_soonest (N : Nat) (l2 : Nat) (K : Nat → Nat) (sz : Nat) (hKS : KS true K sz K sz) (hK2 : K l2 = 40001) (g : GS) (l1 : Int) (r : (Int × S3)) (h : xLaw0_soonest N l2 K sz g l1 = some r) : ConAW [(0, 9, 12, 13), (0, 9, 15, 68)] true sz yX0_soonest cX0_soonest 4 (some .int) 1683 40316 K (fun b => [.ref (b + 0), vI l1, .ref (b + l2)]) g (fun r => ((fun _ => some (vI r.1)), r.2)) (.inr r) := by
  refine ConAW.of RX0 (by decide) rfl (fun b => Nat.le_of_ble_eq_true rfl) (fun x hX hnm => ?_)
  have X := hX.1
  have h0K := hKS.2.2.1
  have hK2e := hK2
  have hWS := hKS.2.2.2.2 rfl
  have hW := hWS.1
  unfold xLaw0_soonest at h
  show V x 4 K (sz - sz) (600 * (sz - sz)) sz g 0 [(0, .ref (xb x + 0)), (1, vI l1), (2, .ref (xb x + l2))] []
  refine V_aload_n X dX0_soonest_0 2 rfl ?_
  refine V_iconst X dX0_soonest_1 ?_
  refine V_aload_n X dX0_soonest_2 0 rfl ?_
  refine V_iload_n X dX0_soonest_3 1 rfl ?_
  obtain ⟨c4, hc4, h⟩ := bind_some_eq h
  rcases c4 with ⟨e4_, s4_⟩ | y4
  · replace h := thT_l h
    obtain ⟨hm, h⟩ := lim_some h
    by_cases he4_1 : e4_ = 1
    · rw [if_pos he4_1] at h
      rw [he4_1] at hc4
      refine RunA.catch (name := "java/lang/IllegalArgumentException") (runV_A (ci := 0) (N := 18) (T := TX1) (As := [vI l1]) (rest := [vI 0, .ref (xb x + l2)]) (o := 0) X hKS.2.1 (ConThr.toA (β := Unit) (v := fun _ => (fun _ => none, K, sz, g)) (con_x_soonest K hW N sz g l1 (.inl (1, s4_)) hc4) hm (hKS.here.kEw _ hm)) gwX0_soonest_65 hdV_X1_soonest ⟨Nat.le_of_ble_eq_true rfl, Nat.le_of_ble_eq_true rfl⟩ rfl (by decide) (hW.at 0 rfl) rfl rfl (Nat.le_of_ble_eq_true rfl) dX0_soonest_4 rfl) X hX.2.2.2.1 hX.hA hX.2.2.2.2 [] (0, 9, 12, 13) [(0, 9, 15, 68)] rfl (fun _ h => nomatch h) (by decide) (by decide) q709 q721 (fun hKSc => ?_)
      have hK2 := hKS.kp hKSc hK2
      have hKS := hKS.tr hKSc
      have hWS := hKS.2.2.2.2 rfl
      have hW := hWS.1
      refine V_astore_n X dX0_soonest_12 (by decide) (L' := [(3, .ref (xb x + sz)), (0, .ref (xb x + 0)), (1, vI l1), (2, .ref (xb x + l2))]) rfl ?_
      refine V_iconst X dX0_soonest_13 ?_
      have hr := Option.some.inj h
      subst hr
      exact V_endA_i hX rfl hKS dX0_soonest_14
    rw [if_neg he4_1] at h
    by_cases he4_2 : e4_ = 2
    · rw [if_pos he4_2] at h
      rw [he4_2] at hc4
      refine RunA.catch (name := "java/lang/IllegalStateException") (runV_A (ci := 0) (N := 18) (T := TX1) (As := [vI l1]) (rest := [vI 0, .ref (xb x + l2)]) (o := 0) X hKS.2.1 (ConThr.toA (β := Unit) (v := fun _ => (fun _ => none, K, sz, g)) (con_x_soonest K hW N sz g l1 (.inl (2, s4_)) hc4) hm (hKS.here.kEw _ hm)) gwX0_soonest_65 hdV_X1_soonest ⟨Nat.le_of_ble_eq_true rfl, Nat.le_of_ble_eq_true rfl⟩ rfl (by decide) (hW.at 0 rfl) rfl rfl (Nat.le_of_ble_eq_true rfl) dX0_soonest_4 rfl) X hX.2.2.2.1 hX.hA hX.2.2.2.2 [(0, 9, 12, 13)] (0, 9, 15, 68) [] rfl (fun q hq => by cases List.mem_singleton.mp hq; exact Or.inr ⟨by decide, "java/lang/IllegalArgumentException", q709, (xok_sf X).nc _ nc_2_1⟩) (by decide) (by decide) q1258 q1269 (fun hKSc => ?_)
      have hK2 := hKS.kp hKSc hK2
      have hKS := hKS.tr hKSc
      have hWS := hKS.2.2.2.2 rfl
      have hW := hWS.1
      refine V_astore_n X dX0_soonest_15 (by decide) (L' := [(3, .ref (xb x + sz)), (0, .ref (xb x + 0)), (1, vI l1), (2, .ref (xb x + l2))]) rfl ?_
      refine V_iconst X dX0_soonest_16 ?_
      have hr := Option.some.inj h
      subst hr
      exact V_endA_i hX rfl hKS dX0_soonest_17
    rw [if_neg he4_2] at h
    cases h
  replace h := thT_r h
  refine V_callV1 (ci := 0) (N := 18) (T := TX1) (As := [vI l1]) (rest := [vI 0, .ref (xb x + l2)]) (s1 := [vI y4.1, vI 0, .ref (xb x + l2)]) (o := 0) X (con_x_soonest K hW N sz g l1 (.inr y4) hc4) gwX0_soonest_65 hdV_X1_soonest ⟨Nat.le_of_ble_eq_true rfl, Nat.le_of_ble_eq_true rfl⟩ rfl (by decide) (hW.at 0 rfl) rfl rfl (Nat.le_of_ble_eq_true rfl) (limcc hKS.2.1) dX0_soonest_4 rfl rfl ?_
  refine V_i2l X dX0_soonest_7 ?_
  refine V_last (o := l2) (n := 1) X hK2 (by decide) dX0_soonest_8 h (fun g8 h => ?_)
  refine V_goto (tgt := 18) X dX0_soonest_9 (by decide) ?_
  refine V_iconst X dX0_soonest_18 ?_
  have hr := Option.some.inj h
  subst hr
  exact V_endA_i hX rfl hKS dX0_soonest_19
set_option maxHeartbeats 4000000 in
theorem con_xLaw0_first (N : Nat) (l2 : Nat) (K : Nat → Nat) (sz : Nat) (hKS : KS true K sz K sz) (hK2 : K l2 = 40001) (g : GS) (l1 : Int) (r : (Int × S3)) (h : xLaw0_first N l2 K sz g l1 = some r) : ConAW [(0, 9, 12, 13), (0, 9, 15, 68)] true sz yX0_first cX0_first 4 (some .int) 1683 40316 K (fun b => [.ref (b + 0), vI l1, .ref (b + l2)]) g (fun r => ((fun _ => some (vI r.1)), r.2)) (.inr r) := by
  refine ConAW.of RX0 (by decide) rfl (fun b => Nat.le_of_ble_eq_true rfl) (fun x hX hnm => ?_)
  have X := hX.1
  have h0K := hKS.2.2.1
  have hK2e := hK2
  have hWS := hKS.2.2.2.2 rfl
  have hW := hWS.1
  unfold xLaw0_first at h
  show V x 4 K (sz - sz) (600 * (sz - sz)) sz g 0 [(0, .ref (xb x + 0)), (1, vI l1), (2, .ref (xb x + l2))] []
  refine V_aload_n X dX0_first_0 2 rfl ?_
  refine V_iconst X dX0_first_1 ?_
  refine V_aload_n X dX0_first_2 0 rfl ?_
  refine V_iload_n X dX0_first_3 1 rfl ?_
  obtain ⟨c4, hc4, h⟩ := bind_some_eq h
  rcases c4 with ⟨e4_, s4_⟩ | y4
  · replace h := thT_l h
    obtain ⟨hm, h⟩ := lim_some h
    by_cases he4_1 : e4_ = 1
    · rw [if_pos he4_1] at h
      rw [he4_1] at hc4
      refine RunA.catch (name := "java/lang/IllegalArgumentException") (runV_A (ci := 0) (N := 18) (T := TX1) (As := [vI l1]) (rest := [vI 0, .ref (xb x + l2)]) (o := 0) X hKS.2.1 (ConThr.toA (β := Unit) (v := fun _ => (fun _ => none, K, sz, g)) (con_x_first K hW N sz g l1 (.inl (1, s4_)) hc4) hm (hKS.here.kEw _ hm)) gwX0_first_70 hdV_X1_first ⟨Nat.le_of_ble_eq_true rfl, Nat.le_of_ble_eq_true rfl⟩ rfl (by decide) (hW.at 0 rfl) rfl rfl (Nat.le_of_ble_eq_true rfl) dX0_first_4 rfl) X hX.2.2.2.1 hX.hA hX.2.2.2.2 [] (0, 9, 12, 13) [(0, 9, 15, 68)] rfl (fun _ h => nomatch h) (by decide) (by decide) q709 q721 (fun hKSc => ?_)
      have hK2 := hKS.kp hKSc hK2
      have hKS := hKS.tr hKSc
      have hWS := hKS.2.2.2.2 rfl
      have hW := hWS.1
      refine V_astore_n X dX0_first_12 (by decide) (L' := [(3, .ref (xb x + sz)), (0, .ref (xb x + 0)), (1, vI l1), (2, .ref (xb x + l2))]) rfl ?_
      refine V_iconst X dX0_first_13 ?_
      have hr := Option.some.inj h
      subst hr
      exact V_endA_i hX rfl hKS dX0_first_14
    rw [if_neg he4_1] at h
    by_cases he4_2 : e4_ = 2
    · rw [if_pos he4_2] at h
      rw [he4_2] at hc4
      refine RunA.catch (name := "java/lang/IllegalStateException") (runV_A (ci := 0) (N := 18) (T := TX1) (As := [vI l1]) (rest := [vI 0, .ref (xb x + l2)]) (o := 0) X hKS.2.1 (ConThr.toA (β := Unit) (v := fun _ => (fun _ => none, K, sz, g)) (con_x_first K hW N sz g l1 (.inl (2, s4_)) hc4) hm (hKS.here.kEw _ hm)) gwX0_first_70 hdV_X1_first ⟨Nat.le_of_ble_eq_true rfl, Nat.le_of_ble_eq_true rfl⟩ rfl (by decide) (hW.at 0 rfl) rfl rfl (Nat.le_of_ble_eq_true rfl) dX0_first_4 rfl) X hX.2.2.2.1 hX.hA hX.2.2.2.2 [(0, 9, 12, 13)] (0, 9, 15, 68) [] rfl (fun q hq => by cases List.mem_singleton.mp hq; exact Or.inr ⟨by decide, "java/lang/IllegalArgumentException", q709, (xok_sf X).nc _ nc_2_1⟩) (by decide) (by decide) q1258 q1269 (fun hKSc => ?_)
      have hK2 := hKS.kp hKSc hK2
      have hKS := hKS.tr hKSc
      have hWS := hKS.2.2.2.2 rfl
      have hW := hWS.1
      refine V_astore_n X dX0_first_15 (by decide) (L' := [(3, .ref (xb x + sz)), (0, .ref (xb x + 0)), (1, vI l1), (2, .ref (xb x + l2))]) rfl ?_
      refine V_iconst X dX0_first_16 ?_
      have hr := Option.some.inj h
      subst hr
      exact V_endA_i hX rfl hKS dX0_first_17
    rw [if_neg he4_2] at h
    cases h
  replace h := thT_r h
  refine V_callV1 (ci := 0) (N := 18) (T := TX1) (As := [vI l1]) (rest := [vI 0, .ref (xb x + l2)]) (s1 := [vI y4.1, vI 0, .ref (xb x + l2)]) (o := 0) X (con_x_first K hW N sz g l1 (.inr y4) hc4) gwX0_first_70 hdV_X1_first ⟨Nat.le_of_ble_eq_true rfl, Nat.le_of_ble_eq_true rfl⟩ rfl (by decide) (hW.at 0 rfl) rfl rfl (Nat.le_of_ble_eq_true rfl) (limcc hKS.2.1) dX0_first_4 rfl rfl ?_
  refine V_i2l X dX0_first_7 ?_
  refine V_last (o := l2) (n := 1) X hK2 (by decide) dX0_first_8 h (fun g8 h => ?_)
  refine V_goto (tgt := 18) X dX0_first_9 (by decide) ?_
  refine V_iconst X dX0_first_18 ?_
  have hr := Option.some.inj h
  subst hr
  exact V_endA_i hX rfl hKS dX0_first_19
set_option maxHeartbeats 4000000 in
theorem con_xLaw0_sinks (N : Nat) (l4 : Nat) (K : Nat → Nat) (sz : Nat) (hKS : KS true K sz K sz) (hK4 : K l4 = 40001) (g : GS) (l1 : Int) (l2 : Int) (l3 : Int) (r : (Int × S3)) (h : xLaw0_sinks N l4 K sz g l1 l2 l3 = some r) : ConAW [(0, 12, 15, 13)] true sz yX0_sinks cX0_sinks 6 (some .int) 10 228 K (fun b => [.ref (b + 0), vI l1, vI l2, vI l3, .ref (b + l4)]) g (fun r => ((fun _ => some (vI r.1)), r.2)) (.inr r) := by
  refine ConAW.of RX0 (by decide) rfl (fun b => Nat.le_of_ble_eq_true rfl) (fun x hX hnm => ?_)
  have X := hX.1
  have h0K := hKS.2.2.1
  have hK4e := hK4
  have hWS := hKS.2.2.2.2 rfl
  have hW := hWS.1
  unfold xLaw0_sinks at h
  show V x 6 K (sz - sz) (600 * (sz - sz)) sz g 0 [(0, .ref (xb x + 0)), (1, vI l1), (2, vI l2), (3, vI l3), (4, .ref (xb x + l4))] []
  refine V_aload X dX0_sinks_0 4 rfl ?_
  refine V_iconst X dX0_sinks_2 ?_
  refine V_aload_n X dX0_sinks_3 0 rfl ?_
  refine V_iload_n X dX0_sinks_4 1 rfl ?_
  refine V_iload_n X dX0_sinks_5 2 rfl ?_
  refine V_iload_n X dX0_sinks_6 3 rfl ?_
  obtain ⟨c7, hc7, h⟩ := bind_some_eq h
  rcases c7 with ⟨e7_, s7_⟩ | y7
  · replace h := thT_l h
    obtain ⟨hm, h⟩ := lim_some h
    by_cases he7_1 : e7_ = 1
    · rw [if_pos he7_1] at h
      rw [he7_1] at hc7
      refine RunA.catch (name := "java/lang/IllegalArgumentException") (runV_A (ci := 0) (N := 18) (T := TX1) (As := [vI l1, vI l2, vI l3]) (rest := [vI 0, .ref (xb x + l4)]) (o := 0) X hKS.2.1 (ConThr.toA (β := Unit) (v := fun _ => (fun _ => none, K, sz, g)) (con_x_sinks K hW N sz g l1 l2 l3 (.inl (1, s7_)) hc7) hm (hKS.here.kEw _ hm)) gwX0_sinks_73 hdV_X1_sinks ⟨Nat.le_of_ble_eq_true rfl, Nat.le_of_ble_eq_true rfl⟩ rfl (by decide) (hW.at 0 rfl) rfl rfl (Nat.le_of_ble_eq_true rfl) dX0_sinks_7 rfl) X hX.2.2.2.1 hX.hA hX.2.2.2.2 [] (0, 12, 15, 13) [] rfl (fun _ h => nomatch h) (by decide) (by decide) q709 q721 (fun hKSc => ?_)
      have hK4 := hKS.kp hKSc hK4
      have hKS := hKS.tr hKSc
      have hWS := hKS.2.2.2.2 rfl
      have hW := hWS.1
      refine V_astore X dX0_sinks_15 (by decide) (L' := [(5, .ref (xb x + sz)), (0, .ref (xb x + 0)), (1, vI l1), (2, vI l2), (3, vI l3), (4, .ref (xb x + l4))]) rfl ?_
      refine V_iconst X dX0_sinks_17 ?_
      have hr := Option.some.inj h
      subst hr
      exact V_endA_i hX rfl hKS dX0_sinks_18
    rw [if_neg he7_1] at h
    cases h
  replace h := thT_r h
  refine V_callV1 (ci := 0) (N := 18) (T := TX1) (As := [vI l1, vI l2, vI l3]) (rest := [vI 0, .ref (xb x + l4)]) (s1 := [vI y7.1, vI 0, .ref (xb x + l4)]) (o := 0) X (con_x_sinks K hW N sz g l1 l2 l3 (.inr y7) hc7) gwX0_sinks_73 hdV_X1_sinks ⟨Nat.le_of_ble_eq_true rfl, Nat.le_of_ble_eq_true rfl⟩ rfl (by decide) (hW.at 0 rfl) rfl rfl (Nat.le_of_ble_eq_true rfl) (limcc hKS.2.1) dX0_sinks_7 rfl rfl ?_
  refine V_i2l X dX0_sinks_10 ?_
  refine V_last (o := l4) (n := 1) X hK4 (by decide) dX0_sinks_11 h (fun g11 h => ?_)
  refine V_goto (tgt := 19) X dX0_sinks_12 (by decide) ?_
  refine V_iconst X dX0_sinks_19 ?_
  have hr := Option.some.inj h
  subst hr
  exact V_endA_i hX rfl hKS dX0_sinks_20
set_option maxHeartbeats 4000000 in
theorem con_xLaw0_under (N : Nat) (l4 : Nat) (K : Nat → Nat) (sz : Nat) (hKS : KS true K sz K sz) (hK4 : K l4 = 40001) (g : GS) (l1 : Int) (l2 : Int) (l3 : Int) (r : (Int × S3)) (h : xLaw0_under N l4 K sz g l1 l2 l3 = some r) : ConAW [(0, 12, 15, 13)] true sz yX0_under cX0_under 6 (some .int) 10 230 K (fun b => [.ref (b + 0), vI l1, vI l2, vI l3, .ref (b + l4)]) g (fun r => ((fun _ => some (vI r.1)), r.2)) (.inr r) := by
  refine ConAW.of RX0 (by decide) rfl (fun b => Nat.le_of_ble_eq_true rfl) (fun x hX hnm => ?_)
  have X := hX.1
  have h0K := hKS.2.2.1
  have hK4e := hK4
  have hWS := hKS.2.2.2.2 rfl
  have hW := hWS.1
  unfold xLaw0_under at h
  show V x 6 K (sz - sz) (600 * (sz - sz)) sz g 0 [(0, .ref (xb x + 0)), (1, vI l1), (2, vI l2), (3, vI l3), (4, .ref (xb x + l4))] []
  refine V_aload X dX0_under_0 4 rfl ?_
  refine V_iconst X dX0_under_2 ?_
  refine V_aload_n X dX0_under_3 0 rfl ?_
  refine V_iload_n X dX0_under_4 1 rfl ?_
  refine V_iload_n X dX0_under_5 2 rfl ?_
  refine V_iload_n X dX0_under_6 3 rfl ?_
  obtain ⟨c7, hc7, h⟩ := bind_some_eq h
  rcases c7 with ⟨e7_, s7_⟩ | y7
  · replace h := thT_l h
    obtain ⟨hm, h⟩ := lim_some h
    by_cases he7_1 : e7_ = 1
    · rw [if_pos he7_1] at h
      rw [he7_1] at hc7
      refine RunA.catch (name := "java/lang/IllegalArgumentException") (runV_A (ci := 0) (N := 18) (T := TX1) (As := [vI l1, vI l2, vI l3]) (rest := [vI 0, .ref (xb x + l4)]) (o := 0) X hKS.2.1 (ConThr.toA (β := Unit) (v := fun _ => (fun _ => none, K, sz, g)) (con_x_under K hW N sz g l1 l2 l3 (.inl (1, s7_)) hc7) hm (hKS.here.kEw _ hm)) gwX0_under_77 hdV_X1_under ⟨Nat.le_of_ble_eq_true rfl, Nat.le_of_ble_eq_true rfl⟩ rfl (by decide) (hW.at 0 rfl) rfl rfl (Nat.le_of_ble_eq_true rfl) dX0_under_7 rfl) X hX.2.2.2.1 hX.hA hX.2.2.2.2 [] (0, 12, 15, 13) [] rfl (fun _ h => nomatch h) (by decide) (by decide) q709 q721 (fun hKSc => ?_)
      have hK4 := hKS.kp hKSc hK4
      have hKS := hKS.tr hKSc
      have hWS := hKS.2.2.2.2 rfl
      have hW := hWS.1
      refine V_astore X dX0_under_15 (by decide) (L' := [(5, .ref (xb x + sz)), (0, .ref (xb x + 0)), (1, vI l1), (2, vI l2), (3, vI l3), (4, .ref (xb x + l4))]) rfl ?_
      refine V_iconst X dX0_under_17 ?_
      have hr := Option.some.inj h
      subst hr
      exact V_endA_i hX rfl hKS dX0_under_18
    rw [if_neg he7_1] at h
    cases h
  replace h := thT_r h
  refine V_callV1 (ci := 0) (N := 18) (T := TX1) (As := [vI l1, vI l2, vI l3]) (rest := [vI 0, .ref (xb x + l4)]) (s1 := [vI y7.1, vI 0, .ref (xb x + l4)]) (o := 0) X (con_x_under K hW N sz g l1 l2 l3 (.inr y7) hc7) gwX0_under_77 hdV_X1_under ⟨Nat.le_of_ble_eq_true rfl, Nat.le_of_ble_eq_true rfl⟩ rfl (by decide) (hW.at 0 rfl) rfl rfl (Nat.le_of_ble_eq_true rfl) (limcc hKS.2.1) dX0_under_7 rfl rfl ?_
  refine V_i2l X dX0_under_10 ?_
  refine V_last (o := l4) (n := 1) X hK4 (by decide) dX0_under_11 h (fun g11 h => ?_)
  refine V_goto (tgt := 19) X dX0_under_12 (by decide) ?_
  refine V_iconst X dX0_under_19 ?_
  have hr := Option.some.inj h
  subst hr
  exact V_endA_i hX rfl hKS dX0_under_20
set_option maxHeartbeats 4000000 in
theorem con_xLaw0_push (N : Nat) (l5 : Nat) (K : Nat → Nat) (sz : Nat) (hKS : KS true K sz K sz) (hK5 : K l5 = 40001) (g : GS) (l1 : Int) (l2 : Int) (l3 : Int) (l4 : Int) (r : (Int × S3)) (h : xLaw0_push N l5 K sz g l1 l2 l3 l4 = some r) : ConAW [(0, 14, 17, 13)] true sz yX0_push cX0_push 7 (some .int) 10 233 K (fun b => [.ref (b + 0), vI l1, vI l2, vI l3, vI l4, .ref (b + l5)]) g (fun r => ((fun _ => some (vI r.1)), r.2)) (.inr r) := by
  refine ConAW.of RX0 (by decide) rfl (fun b => Nat.le_of_ble_eq_true rfl) (fun x hX hnm => ?_)
  have X := hX.1
  have h0K := hKS.2.2.1
  have hK5e := hK5
  have hWS := hKS.2.2.2.2 rfl
  have hW := hWS.1
  unfold xLaw0_push at h
  show V x 7 K (sz - sz) (600 * (sz - sz)) sz g 0 [(0, .ref (xb x + 0)), (1, vI l1), (2, vI l2), (3, vI l3), (4, vI l4), (5, .ref (xb x + l5))] []
  refine V_aload X dX0_push_0 5 rfl ?_
  refine V_iconst X dX0_push_2 ?_
  refine V_aload_n X dX0_push_3 0 rfl ?_
  refine V_iload_n X dX0_push_4 1 rfl ?_
  refine V_iload_n X dX0_push_5 2 rfl ?_
  refine V_iload_n X dX0_push_6 3 rfl ?_
  refine V_iload X dX0_push_7 4 rfl ?_
  obtain ⟨c9, hc9, h⟩ := bind_some_eq h
  rcases c9 with ⟨e9_, s9_⟩ | y9
  · replace h := thT_l h
    obtain ⟨hm, h⟩ := lim_some h
    by_cases he9_1 : e9_ = 1
    · rw [if_pos he9_1] at h
      rw [he9_1] at hc9
      refine RunA.catch (name := "java/lang/IllegalArgumentException") (runV_A (ci := 0) (N := 18) (T := TX1) (As := [vI l1, vI l2, vI l3, vI l4]) (rest := [vI 0, .ref (xb x + l5)]) (o := 0) X hKS.2.1 (ConThr.toA (β := Unit) (v := fun _ => (fun _ => none, K, sz, g)) (con_x_push K hW N sz g l1 l2 l3 l4 (.inl (1, s9_)) hc9) hm (hKS.here.kEw _ hm)) gwX0_push_80 hdV_X1_push ⟨Nat.le_of_ble_eq_true rfl, Nat.le_of_ble_eq_true rfl⟩ rfl (by decide) (hW.at 0 rfl) rfl rfl (Nat.le_of_ble_eq_true rfl) dX0_push_9 rfl) X hX.2.2.2.1 hX.hA hX.2.2.2.2 [] (0, 14, 17, 13) [] rfl (fun _ h => nomatch h) (by decide) (by decide) q709 q721 (fun hKSc => ?_)
      have hK5 := hKS.kp hKSc hK5
      have hKS := hKS.tr hKSc
      have hWS := hKS.2.2.2.2 rfl
      have hW := hWS.1
      refine V_astore X dX0_push_17 (by decide) (L' := [(6, .ref (xb x + sz)), (0, .ref (xb x + 0)), (1, vI l1), (2, vI l2), (3, vI l3), (4, vI l4), (5, .ref (xb x + l5))]) rfl ?_
      refine V_iconst X dX0_push_19 ?_
      have hr := Option.some.inj h
      subst hr
      exact V_endA_i hX rfl hKS dX0_push_20
    rw [if_neg he9_1] at h
    cases h
  replace h := thT_r h
  refine V_callV1 (ci := 0) (N := 18) (T := TX1) (As := [vI l1, vI l2, vI l3, vI l4]) (rest := [vI 0, .ref (xb x + l5)]) (s1 := [vI y9.1, vI 0, .ref (xb x + l5)]) (o := 0) X (con_x_push K hW N sz g l1 l2 l3 l4 (.inr y9) hc9) gwX0_push_80 hdV_X1_push ⟨Nat.le_of_ble_eq_true rfl, Nat.le_of_ble_eq_true rfl⟩ rfl (by decide) (hW.at 0 rfl) rfl rfl (Nat.le_of_ble_eq_true rfl) (limcc hKS.2.1) dX0_push_9 rfl rfl ?_
  refine V_i2l X dX0_push_12 ?_
  refine V_last (o := l5) (n := 1) X hK5 (by decide) dX0_push_13 h (fun g13 h => ?_)
  refine V_goto (tgt := 21) X dX0_push_14 (by decide) ?_
  refine V_iconst X dX0_push_21 ?_
  have hr := Option.some.inj h
  subst hr
  exact V_endA_i hX rfl hKS dX0_push_22
set_option maxHeartbeats 4000000 in
theorem con_xLaw0_tries (N : Nat) (l5 : Nat) (K : Nat → Nat) (sz : Nat) (hKS : KS true K sz K sz) (hK5 : K l5 = 40001) (g : GS) (l1 : Int) (l2 : Int) (l3 : Int) (l4 : Int) (r : (Int × S3)) (h : xLaw0_tries N l5 K sz g l1 l2 l3 l4 = some r) : ConAW [(0, 13, 16, 31), (0, 13, 20, 13)] true sz yX0_tries cX0_tries 7 (some .int) 10 228 K (fun b => [.ref (b + 0), vI l1, vI l2, vI l3, vI l4, .ref (b + l5)]) g (fun r => ((fun _ => some (vI r.1)), r.2)) (.inr r) := by
  refine ConAW.of RX0 (by decide) rfl (fun b => Nat.le_of_ble_eq_true rfl) (fun x hX hnm => ?_)
  have X := hX.1
  have h0K := hKS.2.2.1
  have hK5e := hK5
  have hWS := hKS.2.2.2.2 rfl
  have hW := hWS.1
  unfold xLaw0_tries at h
  show V x 7 K (sz - sz) (600 * (sz - sz)) sz g 0 [(0, .ref (xb x + 0)), (1, vI l1), (2, vI l2), (3, vI l3), (4, vI l4), (5, .ref (xb x + l5))] []
  refine V_aload X dX0_tries_0 5 rfl ?_
  refine V_iconst X dX0_tries_2 ?_
  refine V_aload_n X dX0_tries_3 0 rfl ?_
  refine V_iload_n X dX0_tries_4 1 rfl ?_
  refine V_iload_n X dX0_tries_5 2 rfl ?_
  refine V_iload_n X dX0_tries_6 3 rfl ?_
  refine V_iload X dX0_tries_7 4 rfl ?_
  obtain ⟨c9, hc9, h⟩ := bind_some_eq h
  rcases c9 with ⟨e9_, s9_⟩ | y9
  · replace h := thT_l h
    obtain ⟨hm, h⟩ := lim_some h
    by_cases he9_0 : e9_ = 0
    · rw [if_pos he9_0] at h
      rw [he9_0] at hc9
      refine RunA.catch (name := "java/util/NoSuchElementException") (runV_A (ci := 0) (N := 18) (T := TX1) (As := [vI l1, vI l2, vI l3, vI l4]) (rest := [vI 0, .ref (xb x + l5)]) (o := 0) X hKS.2.1 (ConThr.toA (β := Unit) (v := fun _ => (fun _ => none, K, sz, g)) (con_x_tries K hW N sz g l1 l2 l3 l4 (.inl (0, s9_)) hc9) hm (hKS.here.kEw _ hm)) gwX0_tries_84 hdV_X1_tries ⟨Nat.le_of_ble_eq_true rfl, Nat.le_of_ble_eq_true rfl⟩ rfl (by decide) (hW.at 0 rfl) rfl rfl (Nat.le_of_ble_eq_true rfl) dX0_tries_9 rfl) X hX.2.2.2.1 hX.hA hX.2.2.2.2 [] (0, 13, 16, 31) [(0, 13, 20, 13)] rfl (fun _ h => nomatch h) (by decide) (by decide) q1135 q1150 (fun hKSc => ?_)
      have hK5 := hKS.kp hKSc hK5
      have hKS := hKS.tr hKSc
      have hWS := hKS.2.2.2.2 rfl
      have hW := hWS.1
      refine V_astore X dX0_tries_16 (by decide) (L' := [(6, .ref (xb x + sz)), (0, .ref (xb x + 0)), (1, vI l1), (2, vI l2), (3, vI l3), (4, vI l4), (5, .ref (xb x + l5))]) rfl ?_
      refine V_iconst X dX0_tries_18 ?_
      have hr := Option.some.inj h
      subst hr
      exact V_endA_i hX rfl hKS dX0_tries_19
    rw [if_neg he9_0] at h
    by_cases he9_1 : e9_ = 1
    · rw [if_pos he9_1] at h
      rw [he9_1] at hc9
      refine RunA.catch (name := "java/lang/IllegalArgumentException") (runV_A (ci := 0) (N := 18) (T := TX1) (As := [vI l1, vI l2, vI l3, vI l4]) (rest := [vI 0, .ref (xb x + l5)]) (o := 0) X hKS.2.1 (ConThr.toA (β := Unit) (v := fun _ => (fun _ => none, K, sz, g)) (con_x_tries K hW N sz g l1 l2 l3 l4 (.inl (1, s9_)) hc9) hm (hKS.here.kEw _ hm)) gwX0_tries_84 hdV_X1_tries ⟨Nat.le_of_ble_eq_true rfl, Nat.le_of_ble_eq_true rfl⟩ rfl (by decide) (hW.at 0 rfl) rfl rfl (Nat.le_of_ble_eq_true rfl) dX0_tries_9 rfl) X hX.2.2.2.1 hX.hA hX.2.2.2.2 [(0, 13, 16, 31)] (0, 13, 20, 13) [] rfl (fun q hq => by cases List.mem_singleton.mp hq; exact Or.inr ⟨by decide, "java/util/NoSuchElementException", q1135, (xok_sf X).nc _ nc_1_0⟩) (by decide) (by decide) q709 q721 (fun hKSc => ?_)
      have hK5 := hKS.kp hKSc hK5
      have hKS := hKS.tr hKSc
      have hWS := hKS.2.2.2.2 rfl
      have hW := hWS.1
      refine V_astore X dX0_tries_20 (by decide) (L' := [(6, .ref (xb x + sz)), (0, .ref (xb x + 0)), (1, vI l1), (2, vI l2), (3, vI l3), (4, vI l4), (5, .ref (xb x + l5))]) rfl ?_
      refine V_iconst X dX0_tries_22 ?_
      have hr := Option.some.inj h
      subst hr
      exact V_endA_i hX rfl hKS dX0_tries_23
    rw [if_neg he9_1] at h
    cases h
  replace h := thT_r h
  refine V_callV1 (ci := 0) (N := 18) (T := TX1) (As := [vI l1, vI l2, vI l3, vI l4]) (rest := [vI 0, .ref (xb x + l5)]) (s1 := [vL y9.1, vI 0, .ref (xb x + l5)]) (o := 0) X (con_x_tries K hW N sz g l1 l2 l3 l4 (.inr y9) hc9) gwX0_tries_84 hdV_X1_tries ⟨Nat.le_of_ble_eq_true rfl, Nat.le_of_ble_eq_true rfl⟩ rfl (by decide) (hW.at 0 rfl) rfl rfl (Nat.le_of_ble_eq_true rfl) (limcc hKS.2.1) dX0_tries_9 rfl rfl ?_
  refine V_last (o := l5) (n := 1) X hK5 (by decide) dX0_tries_12 h (fun g12 h => ?_)
  refine V_goto (tgt := 24) X dX0_tries_13 (by decide) ?_
  refine V_iconst X dX0_tries_24 ?_
  have hr := Option.some.inj h
  subst hr
  exact V_endA_i hX rfl hKS dX0_tries_25
set_option maxHeartbeats 4000000 in
theorem con_xLaw0_half (N : Nat) (l3 : Nat) (K : Nat → Nat) (sz : Nat) (hKS : KS true K sz K sz) (hK3 : K l3 = 40001) (g : GS) (l1 : Int) (l2 : Int) (r : (Int × S3)) (h : xLaw0_half N l3 K sz g l1 l2 = some r) : ConAW [(0, 10, 13, 31), (0, 10, 17, 13)] true sz yX0_half cX0_half 5 (some .int) 10 227 K (fun b => [.ref (b + 0), vI l1, vI l2, .ref (b + l3)]) g (fun r => ((fun _ => some (vI r.1)), r.2)) (.inr r) := by
  refine ConAW.of RX0 (by decide) rfl (fun b => Nat.le_of_ble_eq_true rfl) (fun x hX hnm => ?_)
  have X := hX.1
  have h0K := hKS.2.2.1
  have hK3e := hK3
  have hWS := hKS.2.2.2.2 rfl
  have hW := hWS.1
  unfold xLaw0_half at h
  show V x 5 K (sz - sz) (600 * (sz - sz)) sz g 0 [(0, .ref (xb x + 0)), (1, vI l1), (2, vI l2), (3, .ref (xb x + l3))] []
  refine V_aload_n X dX0_half_0 3 rfl ?_
  refine V_iconst X dX0_half_1 ?_
  refine V_aload_n X dX0_half_2 0 rfl ?_
  refine V_iload_n X dX0_half_3 1 rfl ?_
  refine V_iload_n X dX0_half_4 2 rfl ?_
  obtain ⟨c5, hc5, h⟩ := bind_some_eq h
  rcases c5 with ⟨e5_, s5_⟩ | y5
  · replace h := thT_l h
    obtain ⟨hm, h⟩ := lim_some h
    by_cases he5_0 : e5_ = 0
    · rw [if_pos he5_0] at h
      rw [he5_0] at hc5
      refine RunA.catch (name := "java/util/NoSuchElementException") (runV_A (ci := 0) (N := 18) (T := TX1) (As := [vI l1, vI l2]) (rest := [vI 0, .ref (xb x + l3)]) (o := 0) X hKS.2.1 (ConThr.toA (β := Unit) (v := fun _ => (fun _ => none, K, sz, g)) (con_x_half K hW N sz g l1 l2 (.inl (0, s5_)) hc5) hm (hKS.here.kEw _ hm)) gwX0_half_88 hdV_X1_half ⟨Nat.le_of_ble_eq_true rfl, Nat.le_of_ble_eq_true rfl⟩ rfl (by decide) (hW.at 0 rfl) rfl rfl (Nat.le_of_ble_eq_true rfl) dX0_half_5 rfl) X hX.2.2.2.1 hX.hA hX.2.2.2.2 [] (0, 10, 13, 31) [(0, 10, 17, 13)] rfl (fun _ h => nomatch h) (by decide) (by decide) q1135 q1150 (fun hKSc => ?_)
      have hK3 := hKS.kp hKSc hK3
      have hKS := hKS.tr hKSc
      have hWS := hKS.2.2.2.2 rfl
      have hW := hWS.1
      refine V_astore X dX0_half_13 (by decide) (L' := [(4, .ref (xb x + sz)), (0, .ref (xb x + 0)), (1, vI l1), (2, vI l2), (3, .ref (xb x + l3))]) rfl ?_
      refine V_iconst X dX0_half_15 ?_
      have hr := Option.some.inj h
      subst hr
      exact V_endA_i hX rfl hKS dX0_half_16
    rw [if_neg he5_0] at h
    by_cases he5_1 : e5_ = 1
    · rw [if_pos he5_1] at h
      rw [he5_1] at hc5
      refine RunA.catch (name := "java/lang/IllegalArgumentException") (runV_A (ci := 0) (N := 18) (T := TX1) (As := [vI l1, vI l2]) (rest := [vI 0, .ref (xb x + l3)]) (o := 0) X hKS.2.1 (ConThr.toA (β := Unit) (v := fun _ => (fun _ => none, K, sz, g)) (con_x_half K hW N sz g l1 l2 (.inl (1, s5_)) hc5) hm (hKS.here.kEw _ hm)) gwX0_half_88 hdV_X1_half ⟨Nat.le_of_ble_eq_true rfl, Nat.le_of_ble_eq_true rfl⟩ rfl (by decide) (hW.at 0 rfl) rfl rfl (Nat.le_of_ble_eq_true rfl) dX0_half_5 rfl) X hX.2.2.2.1 hX.hA hX.2.2.2.2 [(0, 10, 13, 31)] (0, 10, 17, 13) [] rfl (fun q hq => by cases List.mem_singleton.mp hq; exact Or.inr ⟨by decide, "java/util/NoSuchElementException", q1135, (xok_sf X).nc _ nc_1_0⟩) (by decide) (by decide) q709 q721 (fun hKSc => ?_)
      have hK3 := hKS.kp hKSc hK3
      have hKS := hKS.tr hKSc
      have hWS := hKS.2.2.2.2 rfl
      have hW := hWS.1
      refine V_astore X dX0_half_17 (by decide) (L' := [(4, .ref (xb x + sz)), (0, .ref (xb x + 0)), (1, vI l1), (2, vI l2), (3, .ref (xb x + l3))]) rfl ?_
      refine V_iconst X dX0_half_19 ?_
      have hr := Option.some.inj h
      subst hr
      exact V_endA_i hX rfl hKS dX0_half_20
    rw [if_neg he5_1] at h
    cases h
  replace h := thT_r h
  refine V_callV1 (ci := 0) (N := 18) (T := TX1) (As := [vI l1, vI l2]) (rest := [vI 0, .ref (xb x + l3)]) (s1 := [vI y5.1, vI 0, .ref (xb x + l3)]) (o := 0) X (con_x_half K hW N sz g l1 l2 (.inr y5) hc5) gwX0_half_88 hdV_X1_half ⟨Nat.le_of_ble_eq_true rfl, Nat.le_of_ble_eq_true rfl⟩ rfl (by decide) (hW.at 0 rfl) rfl rfl (Nat.le_of_ble_eq_true rfl) (limcc hKS.2.1) dX0_half_5 rfl rfl ?_
  refine V_i2l X dX0_half_8 ?_
  refine V_last (o := l3) (n := 1) X hK3 (by decide) dX0_half_9 h (fun g9 h => ?_)
  refine V_goto (tgt := 21) X dX0_half_10 (by decide) ?_
  refine V_iconst X dX0_half_21 ?_
  have hr := Option.some.inj h
  subst hr
  exact V_endA_i hX rfl hKS dX0_half_22
set_option maxHeartbeats 4000000 in
theorem con_xLaw0_easiest (N : Nat) (l2 : Nat) (K : Nat → Nat) (sz : Nat) (hKS : KS true K sz K sz) (hK2 : K l2 = 40001) (g : GS) (l1 : Int) (r : (Int × S3)) (h : xLaw0_easiest N l2 K sz g l1 = some r) : ConAW [(0, 9, 12, 13)] true sz yX0_easiest cX0_easiest 4 (some .int) 10 227 K (fun b => [.ref (b + 0), vI l1, .ref (b + l2)]) g (fun r => ((fun _ => some (vI r.1)), r.2)) (.inr r) := by
  refine ConAW.of RX0 (by decide) rfl (fun b => Nat.le_of_ble_eq_true rfl) (fun x hX hnm => ?_)
  have X := hX.1
  have h0K := hKS.2.2.1
  have hK2e := hK2
  have hWS := hKS.2.2.2.2 rfl
  have hW := hWS.1
  unfold xLaw0_easiest at h
  show V x 4 K (sz - sz) (600 * (sz - sz)) sz g 0 [(0, .ref (xb x + 0)), (1, vI l1), (2, .ref (xb x + l2))] []
  refine V_aload_n X dX0_easiest_0 2 rfl ?_
  refine V_iconst X dX0_easiest_1 ?_
  refine V_aload_n X dX0_easiest_2 0 rfl ?_
  refine V_iload_n X dX0_easiest_3 1 rfl ?_
  obtain ⟨c4, hc4, h⟩ := bind_some_eq h
  rcases c4 with ⟨e4_, s4_⟩ | y4
  · replace h := thT_l h
    obtain ⟨hm, h⟩ := lim_some h
    by_cases he4_1 : e4_ = 1
    · rw [if_pos he4_1] at h
      rw [he4_1] at hc4
      refine RunA.catch (name := "java/lang/IllegalArgumentException") (runV_A (ci := 0) (N := 18) (T := TX1) (As := [vI l1]) (rest := [vI 0, .ref (xb x + l2)]) (o := 0) X hKS.2.1 (ConThr.toA (β := Unit) (v := fun _ => (fun _ => none, K, sz, g)) (con_x_easiest K hW N sz g l1 (.inl (1, s4_)) hc4) hm (hKS.here.kEw _ hm)) gwX0_easiest_91 hdV_X1_easiest ⟨Nat.le_of_ble_eq_true rfl, Nat.le_of_ble_eq_true rfl⟩ rfl (by decide) (hW.at 0 rfl) rfl rfl (Nat.le_of_ble_eq_true rfl) dX0_easiest_4 rfl) X hX.2.2.2.1 hX.hA hX.2.2.2.2 [] (0, 9, 12, 13) [] rfl (fun _ h => nomatch h) (by decide) (by decide) q709 q721 (fun hKSc => ?_)
      have hK2 := hKS.kp hKSc hK2
      have hKS := hKS.tr hKSc
      have hWS := hKS.2.2.2.2 rfl
      have hW := hWS.1
      refine V_astore_n X dX0_easiest_12 (by decide) (L' := [(3, .ref (xb x + sz)), (0, .ref (xb x + 0)), (1, vI l1), (2, .ref (xb x + l2))]) rfl ?_
      refine V_iconst X dX0_easiest_13 ?_
      have hr := Option.some.inj h
      subst hr
      exact V_endA_i hX rfl hKS dX0_easiest_14
    rw [if_neg he4_1] at h
    cases h
  replace h := thT_r h
  refine V_callV1 (ci := 0) (N := 18) (T := TX1) (As := [vI l1]) (rest := [vI 0, .ref (xb x + l2)]) (s1 := [vI y4.1, vI 0, .ref (xb x + l2)]) (o := 0) X (con_x_easiest K hW N sz g l1 (.inr y4) hc4) gwX0_easiest_91 hdV_X1_easiest ⟨Nat.le_of_ble_eq_true rfl, Nat.le_of_ble_eq_true rfl⟩ rfl (by decide) (hW.at 0 rfl) rfl rfl (Nat.le_of_ble_eq_true rfl) (limcc hKS.2.1) dX0_easiest_4 rfl rfl ?_
  refine V_i2l X dX0_easiest_7 ?_
  refine V_last (o := l2) (n := 1) X hK2 (by decide) dX0_easiest_8 h (fun g8 h => ?_)
  refine V_goto (tgt := 15) X dX0_easiest_9 (by decide) ?_
  refine V_iconst X dX0_easiest_15 ?_
  have hr := Option.some.inj h
  subst hr
  exact V_endA_i hX rfl hKS dX0_easiest_16
set_option maxHeartbeats 4000000 in
theorem con_xLaw0_waits (N : Nat) (l5 : Nat) (K : Nat → Nat) (sz : Nat) (hKS : KS true K sz K sz) (hK5 : K l5 = 40001) (g : GS) (l1 : Int) (l2 : Int) (l3 : Int) (l4 : Int) (r : (Int × S3)) (h : xLaw0_waits N l5 K sz g l1 l2 l3 l4 = some r) : ConAW [(0, 13, 16, 13)] true sz yX0_waits cX0_waits 7 (some .int) 10 229 K (fun b => [.ref (b + 0), vI l1, vI l2, vI l3, vI l4, .ref (b + l5)]) g (fun r => ((fun _ => some (vI r.1)), r.2)) (.inr r) := by
  refine ConAW.of RX0 (by decide) rfl (fun b => Nat.le_of_ble_eq_true rfl) (fun x hX hnm => ?_)
  have X := hX.1
  have h0K := hKS.2.2.1
  have hK5e := hK5
  have hWS := hKS.2.2.2.2 rfl
  have hW := hWS.1
  unfold xLaw0_waits at h
  show V x 7 K (sz - sz) (600 * (sz - sz)) sz g 0 [(0, .ref (xb x + 0)), (1, vI l1), (2, vI l2), (3, vI l3), (4, vI l4), (5, .ref (xb x + l5))] []
  refine V_aload X dX0_waits_0 5 rfl ?_
  refine V_iconst X dX0_waits_2 ?_
  refine V_aload_n X dX0_waits_3 0 rfl ?_
  refine V_iload_n X dX0_waits_4 1 rfl ?_
  refine V_iload_n X dX0_waits_5 2 rfl ?_
  refine V_iload_n X dX0_waits_6 3 rfl ?_
  refine V_iload X dX0_waits_7 4 rfl ?_
  obtain ⟨c9, hc9, h⟩ := bind_some_eq h
  rcases c9 with ⟨e9_, s9_⟩ | y9
  · replace h := thT_l h
    obtain ⟨hm, h⟩ := lim_some h
    by_cases he9_1 : e9_ = 1
    · rw [if_pos he9_1] at h
      rw [he9_1] at hc9
      refine RunA.catch (name := "java/lang/IllegalArgumentException") (runV_A (ci := 0) (N := 18) (T := TX1) (As := [vI l1, vI l2, vI l3, vI l4]) (rest := [vI 0, .ref (xb x + l5)]) (o := 0) X hKS.2.1 (ConThr.toA (β := Unit) (v := fun _ => (fun _ => none, K, sz, g)) (con_x_waits K hW N sz g l1 l2 l3 l4 (.inl (1, s9_)) hc9) hm (hKS.here.kEw _ hm)) gwX0_waits_94 hdV_X1_waits ⟨Nat.le_of_ble_eq_true rfl, Nat.le_of_ble_eq_true rfl⟩ rfl (by decide) (hW.at 0 rfl) rfl rfl (Nat.le_of_ble_eq_true rfl) dX0_waits_9 rfl) X hX.2.2.2.1 hX.hA hX.2.2.2.2 [] (0, 13, 16, 13) [] rfl (fun _ h => nomatch h) (by decide) (by decide) q709 q721 (fun hKSc => ?_)
      have hK5 := hKS.kp hKSc hK5
      have hKS := hKS.tr hKSc
      have hWS := hKS.2.2.2.2 rfl
      have hW := hWS.1
      refine V_astore X dX0_waits_16 (by decide) (L' := [(6, .ref (xb x + sz)), (0, .ref (xb x + 0)), (1, vI l1), (2, vI l2), (3, vI l3), (4, vI l4), (5, .ref (xb x + l5))]) rfl ?_
      refine V_iconst X dX0_waits_18 ?_
      have hr := Option.some.inj h
      subst hr
      exact V_endA_i hX rfl hKS dX0_waits_19
    rw [if_neg he9_1] at h
    cases h
  replace h := thT_r h
  refine V_callV1 (ci := 0) (N := 18) (T := TX1) (As := [vI l1, vI l2, vI l3, vI l4]) (rest := [vI 0, .ref (xb x + l5)]) (s1 := [vL y9.1, vI 0, .ref (xb x + l5)]) (o := 0) X (con_x_waits K hW N sz g l1 l2 l3 l4 (.inr y9) hc9) gwX0_waits_94 hdV_X1_waits ⟨Nat.le_of_ble_eq_true rfl, Nat.le_of_ble_eq_true rfl⟩ rfl (by decide) (hW.at 0 rfl) rfl rfl (Nat.le_of_ble_eq_true rfl) (limcc hKS.2.1) dX0_waits_9 rfl rfl ?_
  refine V_last (o := l5) (n := 1) X hK5 (by decide) dX0_waits_12 h (fun g12 h => ?_)
  refine V_goto (tgt := 20) X dX0_waits_13 (by decide) ?_
  refine V_iconst X dX0_waits_20 ?_
  have hr := Option.some.inj h
  subst hr
  exact V_endA_i hX rfl hKS dX0_waits_21
set_option maxHeartbeats 4000000 in
theorem con_xLaw0_await (N : Nat) (l3 : Nat) (K : Nat → Nat) (sz : Nat) (hKS : KS true K sz K sz) (hK3 : K l3 = 40001) (g : GS) (l1 : Int) (l2 : Int) (r : (Int × S3)) (h : xLaw0_await N l3 K sz g l1 l2 = some r) : ConAW [(0, 10, 13, 13)] true sz yX0_await cX0_await 5 (some .int) 10 229 K (fun b => [.ref (b + 0), vI l1, vI l2, .ref (b + l3)]) g (fun r => ((fun _ => some (vI r.1)), r.2)) (.inr r) := by
  refine ConAW.of RX0 (by decide) rfl (fun b => Nat.le_of_ble_eq_true rfl) (fun x hX hnm => ?_)
  have X := hX.1
  have h0K := hKS.2.2.1
  have hK3e := hK3
  have hWS := hKS.2.2.2.2 rfl
  have hW := hWS.1
  unfold xLaw0_await at h
  show V x 5 K (sz - sz) (600 * (sz - sz)) sz g 0 [(0, .ref (xb x + 0)), (1, vI l1), (2, vI l2), (3, .ref (xb x + l3))] []
  refine V_aload_n X dX0_await_0 3 rfl ?_
  refine V_iconst X dX0_await_1 ?_
  refine V_aload_n X dX0_await_2 0 rfl ?_
  refine V_iload_n X dX0_await_3 1 rfl ?_
  refine V_iload_n X dX0_await_4 2 rfl ?_
  obtain ⟨c5, hc5, h⟩ := bind_some_eq h
  rcases c5 with ⟨e5_, s5_⟩ | y5
  · replace h := thT_l h
    obtain ⟨hm, h⟩ := lim_some h
    by_cases he5_1 : e5_ = 1
    · rw [if_pos he5_1] at h
      rw [he5_1] at hc5
      refine RunA.catch (name := "java/lang/IllegalArgumentException") (runV_A (ci := 0) (N := 18) (T := TX1) (As := [vI l1, vI l2]) (rest := [vI 0, .ref (xb x + l3)]) (o := 0) X hKS.2.1 (ConThr.toA (β := Unit) (v := fun _ => (fun _ => none, K, sz, g)) (con_x_await K hW N sz g l1 l2 (.inl (1, s5_)) hc5) hm (hKS.here.kEw _ hm)) gwX0_await_97 hdV_X1_await ⟨Nat.le_of_ble_eq_true rfl, Nat.le_of_ble_eq_true rfl⟩ rfl (by decide) (hW.at 0 rfl) rfl rfl (Nat.le_of_ble_eq_true rfl) dX0_await_5 rfl) X hX.2.2.2.1 hX.hA hX.2.2.2.2 [] (0, 10, 13, 13) [] rfl (fun _ h => nomatch h) (by decide) (by decide) q709 q721 (fun hKSc => ?_)
      have hK3 := hKS.kp hKSc hK3
      have hKS := hKS.tr hKSc
      have hWS := hKS.2.2.2.2 rfl
      have hW := hWS.1
      refine V_astore X dX0_await_13 (by decide) (L' := [(4, .ref (xb x + sz)), (0, .ref (xb x + 0)), (1, vI l1), (2, vI l2), (3, .ref (xb x + l3))]) rfl ?_
      refine V_iconst X dX0_await_15 ?_
      have hr := Option.some.inj h
      subst hr
      exact V_endA_i hX rfl hKS dX0_await_16
    rw [if_neg he5_1] at h
    cases h
  replace h := thT_r h
  refine V_callV1 (ci := 0) (N := 18) (T := TX1) (As := [vI l1, vI l2]) (rest := [vI 0, .ref (xb x + l3)]) (s1 := [vI y5.1, vI 0, .ref (xb x + l3)]) (o := 0) X (con_x_await K hW N sz g l1 l2 (.inr y5) hc5) gwX0_await_97 hdV_X1_await ⟨Nat.le_of_ble_eq_true rfl, Nat.le_of_ble_eq_true rfl⟩ rfl (by decide) (hW.at 0 rfl) rfl rfl (Nat.le_of_ble_eq_true rfl) (limcc hKS.2.1) dX0_await_5 rfl rfl ?_
  refine V_i2l X dX0_await_8 ?_
  refine V_last (o := l3) (n := 1) X hK3 (by decide) dX0_await_9 h (fun g9 h => ?_)
  refine V_goto (tgt := 17) X dX0_await_10 (by decide) ?_
  refine V_iconst X dX0_await_17 ?_
  have hr := Option.some.inj h
  subst hr
  exact V_endA_i hX rfl hKS dX0_await_18
set_option maxHeartbeats 4000000 in
theorem con_xLaw0_cross (N : Nat) (l3 : Nat) (K : Nat → Nat) (sz : Nat) (hKS : KS true K sz K sz) (hK3 : K l3 = 40001) (g : GS) (l1 : Int) (l2 : Int) (r : (Int × S3)) (h : xLaw0_cross N l3 K sz g l1 l2 = some r) : ConAW [(0, 10, 13, 13)] true sz yX0_cross cX0_cross 5 (some .int) 67 2035 K (fun b => [.ref (b + 0), vI l1, vI l2, .ref (b + l3)]) g (fun r => ((fun _ => some (vI r.1)), r.2)) (.inr r) := by
  refine ConAW.of RX0 (by decide) rfl (fun b => Nat.le_of_ble_eq_true rfl) (fun x hX hnm => ?_)
  have X := hX.1
  have h0K := hKS.2.2.1
  have hK3e := hK3
  have hWS := hKS.2.2.2.2 rfl
  have hW := hWS.1
  unfold xLaw0_cross at h
  show V x 5 K (sz - sz) (600 * (sz - sz)) sz g 0 [(0, .ref (xb x + 0)), (1, vI l1), (2, vI l2), (3, .ref (xb x + l3))] []
  refine V_aload_n X dX0_cross_0 3 rfl ?_
  refine V_iconst X dX0_cross_1 ?_
  refine V_aload_n X dX0_cross_2 0 rfl ?_
  refine V_iload_n X dX0_cross_3 1 rfl ?_
  refine V_iload_n X dX0_cross_4 2 rfl ?_
  obtain ⟨c5, hc5, h⟩ := bind_some_eq h
  rcases c5 with ⟨e5_, s5_⟩ | y5
  · replace h := thT_l h
    obtain ⟨hm, h⟩ := lim_some h
    by_cases he5_1 : e5_ = 1
    · rw [if_pos he5_1] at h
      rw [he5_1] at hc5
      refine RunA.catch (name := "java/lang/IllegalArgumentException") (runV_A (ci := 0) (N := 18) (T := TX1) (As := [vI l1, vI l2]) (rest := [vI 0, .ref (xb x + l3)]) (o := 0) X hKS.2.1 (ConThr.toA (β := Unit) (v := fun _ => (fun _ => none, K, sz, g)) (con_x_cross K hW N sz g l1 l2 (.inl (1, s5_)) hc5) hm (hKS.here.kEw _ hm)) gwX0_cross_100 hdV_X1_cross ⟨Nat.le_of_ble_eq_true rfl, Nat.le_of_ble_eq_true rfl⟩ rfl (by decide) (hW.at 0 rfl) rfl rfl (Nat.le_of_ble_eq_true rfl) dX0_cross_5 rfl) X hX.2.2.2.1 hX.hA hX.2.2.2.2 [] (0, 10, 13, 13) [] rfl (fun _ h => nomatch h) (by decide) (by decide) q709 q721 (fun hKSc => ?_)
      have hK3 := hKS.kp hKSc hK3
      have hKS := hKS.tr hKSc
      have hWS := hKS.2.2.2.2 rfl
      have hW := hWS.1
      refine V_astore X dX0_cross_13 (by decide) (L' := [(4, .ref (xb x + sz)), (0, .ref (xb x + 0)), (1, vI l1), (2, vI l2), (3, .ref (xb x + l3))]) rfl ?_
      refine V_iconst X dX0_cross_15 ?_
      have hr := Option.some.inj h
      subst hr
      exact V_endA_i hX rfl hKS dX0_cross_16
    rw [if_neg he5_1] at h
    cases h
  replace h := thT_r h
  refine V_callV1 (ci := 0) (N := 18) (T := TX1) (As := [vI l1, vI l2]) (rest := [vI 0, .ref (xb x + l3)]) (s1 := [vI y5.1, vI 0, .ref (xb x + l3)]) (o := 0) X (con_x_cross K hW N sz g l1 l2 (.inr y5) hc5) gwX0_cross_100 hdV_X1_cross ⟨Nat.le_of_ble_eq_true rfl, Nat.le_of_ble_eq_true rfl⟩ rfl (by decide) (hW.at 0 rfl) rfl rfl (Nat.le_of_ble_eq_true rfl) (limcc hKS.2.1) dX0_cross_5 rfl rfl ?_
  refine V_i2l X dX0_cross_8 ?_
  refine V_last (o := l3) (n := 1) X hK3 (by decide) dX0_cross_9 h (fun g9 h => ?_)
  refine V_goto (tgt := 17) X dX0_cross_10 (by decide) ?_
  refine V_iconst X dX0_cross_17 ?_
  have hr := Option.some.inj h
  subst hr
  exact V_endA_i hX rfl hKS dX0_cross_18
set_option maxHeartbeats 4000000 in
theorem con_xLaw0_crooked (N : Nat) (l2 : Nat) (K : Nat → Nat) (sz : Nat) (hKS : KS true K sz K sz) (hK2 : K l2 = 40001) (g : GS) (l1 : Int) (r : (Int × S3)) (h : xLaw0_crooked N l2 K sz g l1 = some r) : ConAW [(0, 9, 12, 13)] true sz yX0_crooked cX0_crooked 4 (some .int) 9 210 K (fun b => [.ref (b + 0), vI l1, .ref (b + l2)]) g (fun r => ((fun _ => some (vI r.1)), r.2)) (.inr r) := by
  refine ConAW.of RX0 (by decide) rfl (fun b => Nat.le_of_ble_eq_true rfl) (fun x hX hnm => ?_)
  have X := hX.1
  have h0K := hKS.2.2.1
  have hK2e := hK2
  have hWS := hKS.2.2.2.2 rfl
  have hW := hWS.1
  unfold xLaw0_crooked at h
  show V x 4 K (sz - sz) (600 * (sz - sz)) sz g 0 [(0, .ref (xb x + 0)), (1, vI l1), (2, .ref (xb x + l2))] []
  refine V_aload_n X dX0_crooked_0 2 rfl ?_
  refine V_iconst X dX0_crooked_1 ?_
  refine V_aload_n X dX0_crooked_2 0 rfl ?_
  refine V_iload_n X dX0_crooked_3 1 rfl ?_
  obtain ⟨c4, hc4, h⟩ := bind_some_eq h
  rcases c4 with ⟨e4_, s4_⟩ | y4
  · replace h := thT_l h
    obtain ⟨hm, h⟩ := lim_some h
    by_cases he4_1 : e4_ = 1
    · rw [if_pos he4_1] at h
      rw [he4_1] at hc4
      refine RunA.catch (name := "java/lang/IllegalArgumentException") (runV_A (ci := 0) (N := 18) (T := TX1) (As := [vI l1]) (rest := [vI 0, .ref (xb x + l2)]) (o := 0) X hKS.2.1 (ConThr.toA (β := Unit) (v := fun _ => (fun _ => none, K, sz, g)) (con_x_crooked K hW N sz g l1 (.inl (1, s4_)) hc4) hm (hKS.here.kEw _ hm)) gwX0_crooked_103 hdV_X1_crooked ⟨Nat.le_of_ble_eq_true rfl, Nat.le_of_ble_eq_true rfl⟩ rfl (by decide) (hW.at 0 rfl) rfl rfl (Nat.le_of_ble_eq_true rfl) dX0_crooked_4 rfl) X hX.2.2.2.1 hX.hA hX.2.2.2.2 [] (0, 9, 12, 13) [] rfl (fun _ h => nomatch h) (by decide) (by decide) q709 q721 (fun hKSc => ?_)
      have hK2 := hKS.kp hKSc hK2
      have hKS := hKS.tr hKSc
      have hWS := hKS.2.2.2.2 rfl
      have hW := hWS.1
      refine V_astore_n X dX0_crooked_12 (by decide) (L' := [(3, .ref (xb x + sz)), (0, .ref (xb x + 0)), (1, vI l1), (2, .ref (xb x + l2))]) rfl ?_
      refine V_iconst X dX0_crooked_13 ?_
      have hr := Option.some.inj h
      subst hr
      exact V_endA_i hX rfl hKS dX0_crooked_14
    rw [if_neg he4_1] at h
    cases h
  replace h := thT_r h
  refine V_callV1 (ci := 0) (N := 18) (T := TX1) (As := [vI l1]) (rest := [vI 0, .ref (xb x + l2)]) (s1 := [vI y4.1, vI 0, .ref (xb x + l2)]) (o := 0) X (con_x_crooked K hW N sz g l1 (.inr y4) hc4) gwX0_crooked_103 hdV_X1_crooked ⟨Nat.le_of_ble_eq_true rfl, Nat.le_of_ble_eq_true rfl⟩ rfl (by decide) (hW.at 0 rfl) rfl rfl (Nat.le_of_ble_eq_true rfl) (limcc hKS.2.1) dX0_crooked_4 rfl rfl ?_
  refine V_i2l X dX0_crooked_7 ?_
  refine V_last (o := l2) (n := 1) X hK2 (by decide) dX0_crooked_8 h (fun g8 h => ?_)
  refine V_goto (tgt := 15) X dX0_crooked_9 (by decide) ?_
  refine V_iconst X dX0_crooked_15 ?_
  have hr := Option.some.inj h
  subst hr
  exact V_endA_i hX rfl hKS dX0_crooked_16
set_option maxHeartbeats 4000000 in
theorem con_xLaw0_share (l2 : Nat) (K : Nat → Nat) (sz : Nat) (hKS : KS true K sz K sz) (hK2 : K l2 = 40001) (g : GS) (l1 : Int) (r : (Int × S3)) (h : xLaw0_share l2 K sz g l1 = some r) : ConAW [(0, 9, 12, 13)] true sz yX0_share cX0_share 4 (some .int) 9 204 K (fun b => [.ref (b + 0), vI l1, .ref (b + l2)]) g (fun r => ((fun _ => some (vI r.1)), r.2)) (.inr r) := by
  refine ConAW.of RX0 (by decide) rfl (fun b => Nat.le_of_ble_eq_true rfl) (fun x hX hnm => ?_)
  have X := hX.1
  have h0K := hKS.2.2.1
  have hK2e := hK2
  have hWS := hKS.2.2.2.2 rfl
  have hW := hWS.1
  unfold xLaw0_share at h
  show V x 4 K (sz - sz) (600 * (sz - sz)) sz g 0 [(0, .ref (xb x + 0)), (1, vI l1), (2, .ref (xb x + l2))] []
  refine V_aload_n X dX0_share_0 2 rfl ?_
  refine V_iconst X dX0_share_1 ?_
  refine V_aload_n X dX0_share_2 0 rfl ?_
  refine V_iload_n X dX0_share_3 1 rfl ?_
  obtain ⟨c4, hc4, h⟩ := bind_some_eq h
  rcases c4 with ⟨e4_, s4_⟩ | y4
  · replace h := thT_l h
    obtain ⟨hm, h⟩ := lim_some h
    by_cases he4_1 : e4_ = 1
    · rw [if_pos he4_1] at h
      rw [he4_1] at hc4
      refine RunA.catch (name := "java/lang/IllegalArgumentException") (runV_A (ci := 0) (N := 18) (T := TX1) (As := [vI l1]) (rest := [vI 0, .ref (xb x + l2)]) (o := 0) X hKS.2.1 (ConThr.toA (β := Unit) (v := fun _ => (fun _ => none, K, sz, g)) (con_x_share K hW sz g l1 (.inl (1, s4_)) hc4) hm (hKS.here.kEw _ hm)) gwX0_share_106 hdV_X1_share ⟨Nat.le_of_ble_eq_true rfl, Nat.le_of_ble_eq_true rfl⟩ rfl (by decide) (hW.at 0 rfl) rfl rfl (Nat.le_of_ble_eq_true rfl) dX0_share_4 rfl) X hX.2.2.2.1 hX.hA hX.2.2.2.2 [] (0, 9, 12, 13) [] rfl (fun _ h => nomatch h) (by decide) (by decide) q709 q721 (fun hKSc => ?_)
      have hK2 := hKS.kp hKSc hK2
      have hKS := hKS.tr hKSc
      have hWS := hKS.2.2.2.2 rfl
      have hW := hWS.1
      refine V_astore_n X dX0_share_12 (by decide) (L' := [(3, .ref (xb x + sz)), (0, .ref (xb x + 0)), (1, vI l1), (2, .ref (xb x + l2))]) rfl ?_
      refine V_iconst X dX0_share_13 ?_
      have hr := Option.some.inj h
      subst hr
      exact V_endA_i hX rfl hKS dX0_share_14
    rw [if_neg he4_1] at h
    cases h
  replace h := thT_r h
  refine V_callV1 (ci := 0) (N := 18) (T := TX1) (As := [vI l1]) (rest := [vI 0, .ref (xb x + l2)]) (s1 := [vI y4.1, vI 0, .ref (xb x + l2)]) (o := 0) X (con_x_share K hW sz g l1 (.inr y4) hc4) gwX0_share_106 hdV_X1_share ⟨Nat.le_of_ble_eq_true rfl, Nat.le_of_ble_eq_true rfl⟩ rfl (by decide) (hW.at 0 rfl) rfl rfl (Nat.le_of_ble_eq_true rfl) (limcc hKS.2.1) dX0_share_4 rfl rfl ?_
  refine V_i2l X dX0_share_7 ?_
  refine V_last (o := l2) (n := 1) X hK2 (by decide) dX0_share_8 h (fun g8 h => ?_)
  refine V_goto (tgt := 15) X dX0_share_9 (by decide) ?_
  refine V_iconst X dX0_share_15 ?_
  have hr := Option.some.inj h
  subst hr
  exact V_endA_i hX rfl hKS dX0_share_16
set_option maxHeartbeats 4000000 in
theorem con_xLaw0_drive (N : Nat) (l2 : Nat) (K : Nat → Nat) (sz : Nat) (hKS : KS true K sz K sz) (hK2 : K l2 = 40001) (g : GS) (l1 : Int) (r : (Int × S3)) (h : xLaw0_drive N l2 K sz g l1 = some r) : ConAW [(0, 9, 12, 13)] true sz yX0_drive cX0_drive 4 (some .int) 9 204 K (fun b => [.ref (b + 0), vI l1, .ref (b + l2)]) g (fun r => ((fun _ => some (vI r.1)), r.2)) (.inr r) := by
  refine ConAW.of RX0 (by decide) rfl (fun b => Nat.le_of_ble_eq_true rfl) (fun x hX hnm => ?_)
  have X := hX.1
  have h0K := hKS.2.2.1
  have hK2e := hK2
  have hWS := hKS.2.2.2.2 rfl
  have hW := hWS.1
  unfold xLaw0_drive at h
  show V x 4 K (sz - sz) (600 * (sz - sz)) sz g 0 [(0, .ref (xb x + 0)), (1, vI l1), (2, .ref (xb x + l2))] []
  refine V_aload_n X dX0_drive_0 2 rfl ?_
  refine V_iconst X dX0_drive_1 ?_
  refine V_aload_n X dX0_drive_2 0 rfl ?_
  refine V_iload_n X dX0_drive_3 1 rfl ?_
  obtain ⟨c4, hc4, h⟩ := bind_some_eq h
  rcases c4 with ⟨e4_, s4_⟩ | y4
  · replace h := thT_l h
    obtain ⟨hm, h⟩ := lim_some h
    by_cases he4_1 : e4_ = 1
    · rw [if_pos he4_1] at h
      rw [he4_1] at hc4
      refine RunA.catch (name := "java/lang/IllegalArgumentException") (runV_A (ci := 0) (N := 18) (T := TX1) (As := [vI l1]) (rest := [vI 0, .ref (xb x + l2)]) (o := 0) X hKS.2.1 (ConThr.toA (β := Unit) (v := fun _ => (fun _ => none, K, sz, g)) (con_x_drive K hW N sz g l1 (.inl (1, s4_)) hc4) hm (hKS.here.kEw _ hm)) gwX0_drive_109 hdV_X1_drive ⟨Nat.le_of_ble_eq_true rfl, Nat.le_of_ble_eq_true rfl⟩ rfl (by decide) (hW.at 0 rfl) rfl rfl (Nat.le_of_ble_eq_true rfl) dX0_drive_4 rfl) X hX.2.2.2.1 hX.hA hX.2.2.2.2 [] (0, 9, 12, 13) [] rfl (fun _ h => nomatch h) (by decide) (by decide) q709 q721 (fun hKSc => ?_)
      have hK2 := hKS.kp hKSc hK2
      have hKS := hKS.tr hKSc
      have hWS := hKS.2.2.2.2 rfl
      have hW := hWS.1
      refine V_astore_n X dX0_drive_12 (by decide) (L' := [(3, .ref (xb x + sz)), (0, .ref (xb x + 0)), (1, vI l1), (2, .ref (xb x + l2))]) rfl ?_
      refine V_iconst X dX0_drive_13 ?_
      have hr := Option.some.inj h
      subst hr
      exact V_endA_i hX rfl hKS dX0_drive_14
    rw [if_neg he4_1] at h
    cases h
  replace h := thT_r h
  refine V_callV1 (ci := 0) (N := 18) (T := TX1) (As := [vI l1]) (rest := [vI 0, .ref (xb x + l2)]) (s1 := [vI y4.1, vI 0, .ref (xb x + l2)]) (o := 0) X (con_x_drive K hW N sz g l1 (.inr y4) hc4) gwX0_drive_109 hdV_X1_drive ⟨Nat.le_of_ble_eq_true rfl, Nat.le_of_ble_eq_true rfl⟩ rfl (by decide) (hW.at 0 rfl) rfl rfl (Nat.le_of_ble_eq_true rfl) (limcc hKS.2.1) dX0_drive_4 rfl rfl ?_
  refine V_i2l X dX0_drive_7 ?_
  refine V_last (o := l2) (n := 1) X hK2 (by decide) dX0_drive_8 h (fun g8 h => ?_)
  refine V_goto (tgt := 15) X dX0_drive_9 (by decide) ?_
  refine V_iconst X dX0_drive_15 ?_
  have hr := Option.some.inj h
  subst hr
  exact V_endA_i hX rfl hKS dX0_drive_16
set_option maxHeartbeats 4000000 in
theorem con_xLaw0_pumps (N : Nat) (l2 : Nat) (K : Nat → Nat) (sz : Nat) (hKS : KS true K sz K sz) (hK2 : K l2 = 40001) (g : GS) (l1 : Int) (r : (Int × S3)) (h : xLaw0_pumps N l2 K sz g l1 = some r) : ConAW [(0, 9, 12, 13)] true sz yX0_pumps cX0_pumps 4 (some .int) 9 204 K (fun b => [.ref (b + 0), vI l1, .ref (b + l2)]) g (fun r => ((fun _ => some (vI r.1)), r.2)) (.inr r) := by
  refine ConAW.of RX0 (by decide) rfl (fun b => Nat.le_of_ble_eq_true rfl) (fun x hX hnm => ?_)
  have X := hX.1
  have h0K := hKS.2.2.1
  have hK2e := hK2
  have hWS := hKS.2.2.2.2 rfl
  have hW := hWS.1
  unfold xLaw0_pumps at h
  show V x 4 K (sz - sz) (600 * (sz - sz)) sz g 0 [(0, .ref (xb x + 0)), (1, vI l1), (2, .ref (xb x + l2))] []
  refine V_aload_n X dX0_pumps_0 2 rfl ?_
  refine V_iconst X dX0_pumps_1 ?_
  refine V_aload_n X dX0_pumps_2 0 rfl ?_
  refine V_iload_n X dX0_pumps_3 1 rfl ?_
  obtain ⟨c4, hc4, h⟩ := bind_some_eq h
  rcases c4 with ⟨e4_, s4_⟩ | y4
  · replace h := thT_l h
    obtain ⟨hm, h⟩ := lim_some h
    by_cases he4_1 : e4_ = 1
    · rw [if_pos he4_1] at h
      rw [he4_1] at hc4
      refine RunA.catch (name := "java/lang/IllegalArgumentException") (runV_A (ci := 0) (N := 18) (T := TX1) (As := [vI l1]) (rest := [vI 0, .ref (xb x + l2)]) (o := 0) X hKS.2.1 (ConThr.toA (β := Unit) (v := fun _ => (fun _ => none, K, sz, g)) (con_x_pumps K hW N sz g l1 (.inl (1, s4_)) hc4) hm (hKS.here.kEw _ hm)) gwX0_pumps_112 hdV_X1_pumps ⟨Nat.le_of_ble_eq_true rfl, Nat.le_of_ble_eq_true rfl⟩ rfl (by decide) (hW.at 0 rfl) rfl rfl (Nat.le_of_ble_eq_true rfl) dX0_pumps_4 rfl) X hX.2.2.2.1 hX.hA hX.2.2.2.2 [] (0, 9, 12, 13) [] rfl (fun _ h => nomatch h) (by decide) (by decide) q709 q721 (fun hKSc => ?_)
      have hK2 := hKS.kp hKSc hK2
      have hKS := hKS.tr hKSc
      have hWS := hKS.2.2.2.2 rfl
      have hW := hWS.1
      refine V_astore_n X dX0_pumps_12 (by decide) (L' := [(3, .ref (xb x + sz)), (0, .ref (xb x + 0)), (1, vI l1), (2, .ref (xb x + l2))]) rfl ?_
      refine V_iconst X dX0_pumps_13 ?_
      have hr := Option.some.inj h
      subst hr
      exact V_endA_i hX rfl hKS dX0_pumps_14
    rw [if_neg he4_1] at h
    cases h
  replace h := thT_r h
  refine V_callV1 (ci := 0) (N := 18) (T := TX1) (As := [vI l1]) (rest := [vI 0, .ref (xb x + l2)]) (s1 := [vI y4.1, vI 0, .ref (xb x + l2)]) (o := 0) X (con_x_pumps K hW N sz g l1 (.inr y4) hc4) gwX0_pumps_112 hdV_X1_pumps ⟨Nat.le_of_ble_eq_true rfl, Nat.le_of_ble_eq_true rfl⟩ rfl (by decide) (hW.at 0 rfl) rfl rfl (Nat.le_of_ble_eq_true rfl) (limcc hKS.2.1) dX0_pumps_4 rfl rfl ?_
  refine V_i2l X dX0_pumps_7 ?_
  refine V_last (o := l2) (n := 1) X hK2 (by decide) dX0_pumps_8 h (fun g8 h => ?_)
  refine V_goto (tgt := 15) X dX0_pumps_9 (by decide) ?_
  refine V_iconst X dX0_pumps_15 ?_
  have hr := Option.some.inj h
  subst hr
  exact V_endA_i hX rfl hKS dX0_pumps_16
set_option maxHeartbeats 4000000 in
theorem con_xLaw0_odds (N : Nat) (l3 : Nat) (K : Nat → Nat) (sz : Nat) (hKS : KS true K sz K sz) (hK3 : K l3 = 40001) (g : GS) (l1 : Int) (l2 : Int) (r : (Int × S3)) (h : xLaw0_odds N l3 K sz g l1 l2 = some r) : ConAW [(0, 9, 12, 31), (0, 9, 16, 13)] true sz yX0_odds cX0_odds 5 (some .int) 9 207 K (fun b => [.ref (b + 0), vI l1, vI l2, .ref (b + l3)]) g (fun r => ((fun _ => some (vI r.1)), r.2)) (.inr r) := by
  refine ConAW.of RX0 (by decide) rfl (fun b => Nat.le_of_ble_eq_true rfl) (fun x hX hnm => ?_)
  have X := hX.1
  have h0K := hKS.2.2.1
  have hK3e := hK3
  have hWS := hKS.2.2.2.2 rfl
  have hW := hWS.1
  unfold xLaw0_odds at h
  show V x 5 K (sz - sz) (600 * (sz - sz)) sz g 0 [(0, .ref (xb x + 0)), (1, vI l1), (2, vI l2), (3, .ref (xb x + l3))] []
  refine V_aload_n X dX0_odds_0 3 rfl ?_
  refine V_iconst X dX0_odds_1 ?_
  refine V_aload_n X dX0_odds_2 0 rfl ?_
  refine V_iload_n X dX0_odds_3 1 rfl ?_
  refine V_iload_n X dX0_odds_4 2 rfl ?_
  obtain ⟨c5, hc5, h⟩ := bind_some_eq h
  rcases c5 with ⟨e5_, s5_⟩ | y5
  · replace h := thT_l h
    obtain ⟨hm, h⟩ := lim_some h
    by_cases he5_0 : e5_ = 0
    · rw [if_pos he5_0] at h
      rw [he5_0] at hc5
      refine RunA.catch (name := "java/util/NoSuchElementException") (runV_A (ci := 0) (N := 18) (T := TX1) (As := [vI l1, vI l2]) (rest := [vI 0, .ref (xb x + l3)]) (o := 0) X hKS.2.1 (ConThr.toA (β := Unit) (v := fun _ => (fun _ => none, K, sz, g)) (con_x_odds K hW N sz g l1 l2 (.inl (0, s5_)) hc5) hm (hKS.here.kEw _ hm)) gwX0_odds_115 hdV_X1_odds ⟨Nat.le_of_ble_eq_true rfl, Nat.le_of_ble_eq_true rfl⟩ rfl (by decide) (hW.at 0 rfl) rfl rfl (Nat.le_of_ble_eq_true rfl) dX0_odds_5 rfl) X hX.2.2.2.1 hX.hA hX.2.2.2.2 [] (0, 9, 12, 31) [(0, 9, 16, 13)] rfl (fun _ h => nomatch h) (by decide) (by decide) q1135 q1150 (fun hKSc => ?_)
      have hK3 := hKS.kp hKSc hK3
      have hKS := hKS.tr hKSc
      have hWS := hKS.2.2.2.2 rfl
      have hW := hWS.1
      refine V_astore X dX0_odds_12 (by decide) (L' := [(4, .ref (xb x + sz)), (0, .ref (xb x + 0)), (1, vI l1), (2, vI l2), (3, .ref (xb x + l3))]) rfl ?_
      refine V_iconst X dX0_odds_14 ?_
      have hr := Option.some.inj h
      subst hr
      exact V_endA_i hX rfl hKS dX0_odds_15
    rw [if_neg he5_0] at h
    by_cases he5_1 : e5_ = 1
    · rw [if_pos he5_1] at h
      rw [he5_1] at hc5
      refine RunA.catch (name := "java/lang/IllegalArgumentException") (runV_A (ci := 0) (N := 18) (T := TX1) (As := [vI l1, vI l2]) (rest := [vI 0, .ref (xb x + l3)]) (o := 0) X hKS.2.1 (ConThr.toA (β := Unit) (v := fun _ => (fun _ => none, K, sz, g)) (con_x_odds K hW N sz g l1 l2 (.inl (1, s5_)) hc5) hm (hKS.here.kEw _ hm)) gwX0_odds_115 hdV_X1_odds ⟨Nat.le_of_ble_eq_true rfl, Nat.le_of_ble_eq_true rfl⟩ rfl (by decide) (hW.at 0 rfl) rfl rfl (Nat.le_of_ble_eq_true rfl) dX0_odds_5 rfl) X hX.2.2.2.1 hX.hA hX.2.2.2.2 [(0, 9, 12, 31)] (0, 9, 16, 13) [] rfl (fun q hq => by cases List.mem_singleton.mp hq; exact Or.inr ⟨by decide, "java/util/NoSuchElementException", q1135, (xok_sf X).nc _ nc_1_0⟩) (by decide) (by decide) q709 q721 (fun hKSc => ?_)
      have hK3 := hKS.kp hKSc hK3
      have hKS := hKS.tr hKSc
      have hWS := hKS.2.2.2.2 rfl
      have hW := hWS.1
      refine V_astore X dX0_odds_16 (by decide) (L' := [(4, .ref (xb x + sz)), (0, .ref (xb x + 0)), (1, vI l1), (2, vI l2), (3, .ref (xb x + l3))]) rfl ?_
      refine V_iconst X dX0_odds_18 ?_
      have hr := Option.some.inj h
      subst hr
      exact V_endA_i hX rfl hKS dX0_odds_19
    rw [if_neg he5_1] at h
    cases h
  replace h := thT_r h
  refine V_callV1 (ci := 0) (N := 18) (T := TX1) (As := [vI l1, vI l2]) (rest := [vI 0, .ref (xb x + l3)]) (s1 := [vL y5.1, vI 0, .ref (xb x + l3)]) (o := 0) X (con_x_odds K hW N sz g l1 l2 (.inr y5) hc5) gwX0_odds_115 hdV_X1_odds ⟨Nat.le_of_ble_eq_true rfl, Nat.le_of_ble_eq_true rfl⟩ rfl (by decide) (hW.at 0 rfl) rfl rfl (Nat.le_of_ble_eq_true rfl) (limcc hKS.2.1) dX0_odds_5 rfl rfl ?_
  refine V_last (o := l3) (n := 1) X hK3 (by decide) dX0_odds_8 h (fun g8 h => ?_)
  refine V_goto (tgt := 20) X dX0_odds_9 (by decide) ?_
  refine V_iconst X dX0_odds_20 ?_
  have hr := Option.some.inj h
  subst hr
  exact V_endA_i hX rfl hKS dX0_odds_21
set_option maxHeartbeats 4000000 in
theorem con_xLaw0_evening (N : Nat) (l3 : Nat) (K : Nat → Nat) (sz : Nat) (hKS : KS true K sz K sz) (hK3 : K l3 = 40001) (g : GS) (l1 : Int) (l2 : Int) (r : (Int × S3)) (h : xLaw0_evening N l3 K sz g l1 l2 = some r) : ConAW [(0, 10, 13, 13)] true sz yX0_evening cX0_evening 5 (some .int) 212 5056 K (fun b => [.ref (b + 0), vI l1, vI l2, .ref (b + l3)]) g (fun r => ((fun _ => some (vI r.1)), r.2)) (.inr r) := by
  refine ConAW.of RX0 (by decide) rfl (fun b => Nat.le_of_ble_eq_true rfl) (fun x hX hnm => ?_)
  have X := hX.1
  have h0K := hKS.2.2.1
  have hK3e := hK3
  have hWS := hKS.2.2.2.2 rfl
  have hW := hWS.1
  unfold xLaw0_evening at h
  show V x 5 K (sz - sz) (600 * (sz - sz)) sz g 0 [(0, .ref (xb x + 0)), (1, vI l1), (2, vI l2), (3, .ref (xb x + l3))] []
  refine V_aload_n X dX0_evening_0 3 rfl ?_
  refine V_iconst X dX0_evening_1 ?_
  refine V_aload_n X dX0_evening_2 0 rfl ?_
  refine V_iload_n X dX0_evening_3 1 rfl ?_
  refine V_iload_n X dX0_evening_4 2 rfl ?_
  obtain ⟨c5, hc5, h⟩ := bind_some_eq h
  rcases c5 with ⟨e5_, s5_⟩ | y5
  · replace h := thT_l h
    obtain ⟨hm, h⟩ := lim_some h
    by_cases he5_1 : e5_ = 1
    · rw [if_pos he5_1] at h
      rw [he5_1] at hc5
      refine RunA.catch (name := "java/lang/IllegalArgumentException") (runV_A (ci := 0) (N := 18) (T := TX1) (As := [vI l1, vI l2]) (rest := [vI 0, .ref (xb x + l3)]) (o := 0) X hKS.2.1 (ConThr.toA (β := Unit) (v := fun _ => (fun _ => none, K, sz, g)) (con_x_evening K hW N sz g l1 l2 (.inl (1, s5_)) hc5) hm (hKS.here.kEw _ hm)) gwX0_evening_119 hdV_X1_evening ⟨Nat.le_of_ble_eq_true rfl, Nat.le_of_ble_eq_true rfl⟩ rfl (by decide) (hW.at 0 rfl) rfl rfl (Nat.le_of_ble_eq_true rfl) dX0_evening_5 rfl) X hX.2.2.2.1 hX.hA hX.2.2.2.2 [] (0, 10, 13, 13) [] rfl (fun _ h => nomatch h) (by decide) (by decide) q709 q721 (fun hKSc => ?_)
      have hK3 := hKS.kp hKSc hK3
      have hKS := hKS.tr hKSc
      have hWS := hKS.2.2.2.2 rfl
      have hW := hWS.1
      refine V_astore X dX0_evening_13 (by decide) (L' := [(4, .ref (xb x + sz)), (0, .ref (xb x + 0)), (1, vI l1), (2, vI l2), (3, .ref (xb x + l3))]) rfl ?_
      refine V_iconst X dX0_evening_15 ?_
      have hr := Option.some.inj h
      subst hr
      exact V_endA_i hX rfl hKS dX0_evening_16
    rw [if_neg he5_1] at h
    cases h
  replace h := thT_r h
  refine V_callV1 (ci := 0) (N := 18) (T := TX1) (As := [vI l1, vI l2]) (rest := [vI 0, .ref (xb x + l3)]) (s1 := [vI y5.1, vI 0, .ref (xb x + l3)]) (o := 0) X (con_x_evening K hW N sz g l1 l2 (.inr y5) hc5) gwX0_evening_119 hdV_X1_evening ⟨Nat.le_of_ble_eq_true rfl, Nat.le_of_ble_eq_true rfl⟩ rfl (by decide) (hW.at 0 rfl) rfl rfl (Nat.le_of_ble_eq_true rfl) (limcc hKS.2.1) dX0_evening_5 rfl rfl ?_
  refine V_i2l X dX0_evening_8 ?_
  refine V_last (o := l3) (n := 1) X hK3 (by decide) dX0_evening_9 h (fun g9 h => ?_)
  refine V_goto (tgt := 17) X dX0_evening_10 (by decide) ?_
  refine V_iconst X dX0_evening_17 ?_
  have hr := Option.some.inj h
  subst hr
  exact V_endA_i hX rfl hKS dX0_evening_18
set_option maxHeartbeats 4000000 in
theorem con_xLaw0_evenings (N : Nat) (l4 : Nat) (K : Nat → Nat) (sz : Nat) (hKS : KS true K sz K sz) (hK4 : K l4 = 40001) (g : GS) (l1 : Int) (l2 : Int) (l3 : Int) (r : (Int × S3)) (h : xLaw0_evenings N l4 K sz g l1 l2 l3 = some r) : ConAW [(0, 12, 15, 13)] true sz yX0_evenings cX0_evenings 6 (some .int) 212 5063 K (fun b => [.ref (b + 0), vI l1, vI l2, vI l3, .ref (b + l4)]) g (fun r => ((fun _ => some (vI r.1)), r.2)) (.inr r) := by
  refine ConAW.of RX0 (by decide) rfl (fun b => Nat.le_of_ble_eq_true rfl) (fun x hX hnm => ?_)
  have X := hX.1
  have h0K := hKS.2.2.1
  have hK4e := hK4
  have hWS := hKS.2.2.2.2 rfl
  have hW := hWS.1
  unfold xLaw0_evenings at h
  show V x 6 K (sz - sz) (600 * (sz - sz)) sz g 0 [(0, .ref (xb x + 0)), (1, vI l1), (2, vI l2), (3, vI l3), (4, .ref (xb x + l4))] []
  refine V_aload X dX0_evenings_0 4 rfl ?_
  refine V_iconst X dX0_evenings_2 ?_
  refine V_aload_n X dX0_evenings_3 0 rfl ?_
  refine V_iload_n X dX0_evenings_4 1 rfl ?_
  refine V_iload_n X dX0_evenings_5 2 rfl ?_
  refine V_iload_n X dX0_evenings_6 3 rfl ?_
  obtain ⟨c7, hc7, h⟩ := bind_some_eq h
  rcases c7 with ⟨e7_, s7_⟩ | y7
  · replace h := thT_l h
    obtain ⟨hm, h⟩ := lim_some h
    by_cases he7_1 : e7_ = 1
    · rw [if_pos he7_1] at h
      rw [he7_1] at hc7
      refine RunA.catch (name := "java/lang/IllegalArgumentException") (runV_A (ci := 0) (N := 18) (T := TX1) (As := [vI l1, vI l2, vI l3]) (rest := [vI 0, .ref (xb x + l4)]) (o := 0) X hKS.2.1 (ConThr.toA (β := Unit) (v := fun _ => (fun _ => none, K, sz, g)) (con_x_evenings K hW N sz g l1 l2 l3 (.inl (1, s7_)) hc7) hm (hKS.here.kEw _ hm)) gwX0_evenings_122 hdV_X1_evenings ⟨Nat.le_of_ble_eq_true rfl, Nat.le_of_ble_eq_true rfl⟩ rfl (by decide) (hW.at 0 rfl) rfl rfl (Nat.le_of_ble_eq_true rfl) dX0_evenings_7 rfl) X hX.2.2.2.1 hX.hA hX.2.2.2.2 [] (0, 12, 15, 13) [] rfl (fun _ h => nomatch h) (by decide) (by decide) q709 q721 (fun hKSc => ?_)
      have hK4 := hKS.kp hKSc hK4
      have hKS := hKS.tr hKSc
      have hWS := hKS.2.2.2.2 rfl
      have hW := hWS.1
      refine V_astore X dX0_evenings_15 (by decide) (L' := [(5, .ref (xb x + sz)), (0, .ref (xb x + 0)), (1, vI l1), (2, vI l2), (3, vI l3), (4, .ref (xb x + l4))]) rfl ?_
      refine V_iconst X dX0_evenings_17 ?_
      have hr := Option.some.inj h
      subst hr
      exact V_endA_i hX rfl hKS dX0_evenings_18
    rw [if_neg he7_1] at h
    cases h
  replace h := thT_r h
  refine V_callV1 (ci := 0) (N := 18) (T := TX1) (As := [vI l1, vI l2, vI l3]) (rest := [vI 0, .ref (xb x + l4)]) (s1 := [vI y7.1, vI 0, .ref (xb x + l4)]) (o := 0) X (con_x_evenings K hW N sz g l1 l2 l3 (.inr y7) hc7) gwX0_evenings_122 hdV_X1_evenings ⟨Nat.le_of_ble_eq_true rfl, Nat.le_of_ble_eq_true rfl⟩ rfl (by decide) (hW.at 0 rfl) rfl rfl (Nat.le_of_ble_eq_true rfl) (limcc hKS.2.1) dX0_evenings_7 rfl rfl ?_
  refine V_i2l X dX0_evenings_10 ?_
  refine V_last (o := l4) (n := 1) X hK4 (by decide) dX0_evenings_11 h (fun g11 h => ?_)
  refine V_goto (tgt := 19) X dX0_evenings_12 (by decide) ?_
  refine V_iconst X dX0_evenings_19 ?_
  have hr := Option.some.inj h
  subst hr
  exact V_endA_i hX rfl hKS dX0_evenings_20
set_option maxHeartbeats 4000000 in
theorem con_xLaw0_swap (l3 : Nat) (K : Nat → Nat) (sz : Nat) (hKS : KS true K sz K sz) (hK3 : K l3 = 40001) (g : GS) (l1 : Int) (l2 : Int) (r : (Int × S3)) (h : xLaw0_swap l3 K sz g l1 l2 = some r) : ConAW [(0, 10, 13, 31)] true sz yX0_swap cX0_swap 5 (some .int) 10 225 K (fun b => [.ref (b + 0), vI l1, vI l2, .ref (b + l3)]) g (fun r => ((fun _ => some (vI r.1)), r.2)) (.inr r) := by
  refine ConAW.of RX0 (by decide) rfl (fun b => Nat.le_of_ble_eq_true rfl) (fun x hX hnm => ?_)
  have X := hX.1
  have h0K := hKS.2.2.1
  have hK3e := hK3
  have hWS := hKS.2.2.2.2 rfl
  have hW := hWS.1
  unfold xLaw0_swap at h
  show V x 5 K (sz - sz) (600 * (sz - sz)) sz g 0 [(0, .ref (xb x + 0)), (1, vI l1), (2, vI l2), (3, .ref (xb x + l3))] []
  refine V_aload_n X dX0_swap_0 3 rfl ?_
  refine V_iconst X dX0_swap_1 ?_
  refine V_aload_n X dX0_swap_2 0 rfl ?_
  refine V_iload_n X dX0_swap_3 1 rfl ?_
  refine V_iload_n X dX0_swap_4 2 rfl ?_
  obtain ⟨c5, hc5, h⟩ := bind_some_eq h
  rcases c5 with ⟨e5_, s5_⟩ | y5
  · replace h := thT_l h
    obtain ⟨hm, h⟩ := lim_some h
    by_cases he5_0 : e5_ = 0
    · rw [if_pos he5_0] at h
      rw [he5_0] at hc5
      refine RunA.catch (name := "java/util/NoSuchElementException") (runV_A (ci := 0) (N := 18) (T := TX1) (As := [vI l1, vI l2]) (rest := [vI 0, .ref (xb x + l3)]) (o := 0) X hKS.2.1 (ConThr.toA (β := Unit) (v := fun _ => (fun _ => none, K, sz, g)) (con_x_swap K hW sz g l1 l2 (.inl (0, s5_)) hc5) hm (hKS.here.kEw _ hm)) gwX0_swap_125 hdV_X1_swap ⟨Nat.le_of_ble_eq_true rfl, Nat.le_of_ble_eq_true rfl⟩ rfl (by decide) (hW.at 0 rfl) rfl rfl (Nat.le_of_ble_eq_true rfl) dX0_swap_5 rfl) X hX.2.2.2.1 hX.hA hX.2.2.2.2 [] (0, 10, 13, 31) [] rfl (fun _ h => nomatch h) (by decide) (by decide) q1135 q1150 (fun hKSc => ?_)
      have hK3 := hKS.kp hKSc hK3
      have hKS := hKS.tr hKSc
      have hWS := hKS.2.2.2.2 rfl
      have hW := hWS.1
      refine V_astore X dX0_swap_13 (by decide) (L' := [(4, .ref (xb x + sz)), (0, .ref (xb x + 0)), (1, vI l1), (2, vI l2), (3, .ref (xb x + l3))]) rfl ?_
      refine V_iconst X dX0_swap_15 ?_
      have hr := Option.some.inj h
      subst hr
      exact V_endA_i hX rfl hKS dX0_swap_16
    rw [if_neg he5_0] at h
    cases h
  replace h := thT_r h
  refine V_callV1 (ci := 0) (N := 18) (T := TX1) (As := [vI l1, vI l2]) (rest := [vI 0, .ref (xb x + l3)]) (s1 := [vI y5.1, vI 0, .ref (xb x + l3)]) (o := 0) X (con_x_swap K hW sz g l1 l2 (.inr y5) hc5) gwX0_swap_125 hdV_X1_swap ⟨Nat.le_of_ble_eq_true rfl, Nat.le_of_ble_eq_true rfl⟩ rfl (by decide) (hW.at 0 rfl) rfl rfl (Nat.le_of_ble_eq_true rfl) (limcc hKS.2.1) dX0_swap_5 rfl rfl ?_
  refine V_i2l X dX0_swap_8 ?_
  refine V_last (o := l3) (n := 1) X hK3 (by decide) dX0_swap_9 h (fun g9 h => ?_)
  refine V_goto (tgt := 17) X dX0_swap_10 (by decide) ?_
  refine V_iconst X dX0_swap_17 ?_
  have hr := Option.some.inj h
  subst hr
  exact V_endA_i hX rfl hKS dX0_swap_18
set_option maxHeartbeats 4000000 in
theorem con_xLaw0_hand (l3 : Nat) (K : Nat → Nat) (sz : Nat) (hKS : KS true K sz K sz) (hK3 : K l3 = 40001) (g : GS) (l1 : Int) (l2 : Int) (r : (Int × S3)) (h : xLaw0_hand l3 K sz g l1 l2 = some r) : ConAW [(0, 10, 13, 31), (0, 10, 17, 13)] true sz yX0_hand cX0_hand 5 (some .int) 10 225 K (fun b => [.ref (b + 0), vI l1, vI l2, .ref (b + l3)]) g (fun r => ((fun _ => some (vI r.1)), r.2)) (.inr r) := by
  refine ConAW.of RX0 (by decide) rfl (fun b => Nat.le_of_ble_eq_true rfl) (fun x hX hnm => ?_)
  have X := hX.1
  have h0K := hKS.2.2.1
  have hK3e := hK3
  have hWS := hKS.2.2.2.2 rfl
  have hW := hWS.1
  unfold xLaw0_hand at h
  show V x 5 K (sz - sz) (600 * (sz - sz)) sz g 0 [(0, .ref (xb x + 0)), (1, vI l1), (2, vI l2), (3, .ref (xb x + l3))] []
  refine V_aload_n X dX0_hand_0 3 rfl ?_
  refine V_iconst X dX0_hand_1 ?_
  refine V_aload_n X dX0_hand_2 0 rfl ?_
  refine V_iload_n X dX0_hand_3 1 rfl ?_
  refine V_iload_n X dX0_hand_4 2 rfl ?_
  obtain ⟨c5, hc5, h⟩ := bind_some_eq h
  rcases c5 with ⟨e5_, s5_⟩ | y5
  · replace h := thT_l h
    obtain ⟨hm, h⟩ := lim_some h
    by_cases he5_0 : e5_ = 0
    · rw [if_pos he5_0] at h
      rw [he5_0] at hc5
      refine RunA.catch (name := "java/util/NoSuchElementException") (runV_A (ci := 0) (N := 18) (T := TX1) (As := [vI l1, vI l2]) (rest := [vI 0, .ref (xb x + l3)]) (o := 0) X hKS.2.1 (ConThr.toA (β := Unit) (v := fun _ => (fun _ => none, K, sz, g)) (con_x_hand K hW sz g l1 l2 (.inl (0, s5_)) hc5) hm (hKS.here.kEw _ hm)) gwX0_hand_128 hdV_X1_hand ⟨Nat.le_of_ble_eq_true rfl, Nat.le_of_ble_eq_true rfl⟩ rfl (by decide) (hW.at 0 rfl) rfl rfl (Nat.le_of_ble_eq_true rfl) dX0_hand_5 rfl) X hX.2.2.2.1 hX.hA hX.2.2.2.2 [] (0, 10, 13, 31) [(0, 10, 17, 13)] rfl (fun _ h => nomatch h) (by decide) (by decide) q1135 q1150 (fun hKSc => ?_)
      have hK3 := hKS.kp hKSc hK3
      have hKS := hKS.tr hKSc
      have hWS := hKS.2.2.2.2 rfl
      have hW := hWS.1
      refine V_astore X dX0_hand_13 (by decide) (L' := [(4, .ref (xb x + sz)), (0, .ref (xb x + 0)), (1, vI l1), (2, vI l2), (3, .ref (xb x + l3))]) rfl ?_
      refine V_iconst X dX0_hand_15 ?_
      have hr := Option.some.inj h
      subst hr
      exact V_endA_i hX rfl hKS dX0_hand_16
    rw [if_neg he5_0] at h
    by_cases he5_1 : e5_ = 1
    · rw [if_pos he5_1] at h
      rw [he5_1] at hc5
      refine RunA.catch (name := "java/lang/IllegalArgumentException") (runV_A (ci := 0) (N := 18) (T := TX1) (As := [vI l1, vI l2]) (rest := [vI 0, .ref (xb x + l3)]) (o := 0) X hKS.2.1 (ConThr.toA (β := Unit) (v := fun _ => (fun _ => none, K, sz, g)) (con_x_hand K hW sz g l1 l2 (.inl (1, s5_)) hc5) hm (hKS.here.kEw _ hm)) gwX0_hand_128 hdV_X1_hand ⟨Nat.le_of_ble_eq_true rfl, Nat.le_of_ble_eq_true rfl⟩ rfl (by decide) (hW.at 0 rfl) rfl rfl (Nat.le_of_ble_eq_true rfl) dX0_hand_5 rfl) X hX.2.2.2.1 hX.hA hX.2.2.2.2 [(0, 10, 13, 31)] (0, 10, 17, 13) [] rfl (fun q hq => by cases List.mem_singleton.mp hq; exact Or.inr ⟨by decide, "java/util/NoSuchElementException", q1135, (xok_sf X).nc _ nc_1_0⟩) (by decide) (by decide) q709 q721 (fun hKSc => ?_)
      have hK3 := hKS.kp hKSc hK3
      have hKS := hKS.tr hKSc
      have hWS := hKS.2.2.2.2 rfl
      have hW := hWS.1
      refine V_astore X dX0_hand_17 (by decide) (L' := [(4, .ref (xb x + sz)), (0, .ref (xb x + 0)), (1, vI l1), (2, vI l2), (3, .ref (xb x + l3))]) rfl ?_
      refine V_iconst X dX0_hand_19 ?_
      have hr := Option.some.inj h
      subst hr
      exact V_endA_i hX rfl hKS dX0_hand_20
    rw [if_neg he5_1] at h
    cases h
  replace h := thT_r h
  refine V_callV1 (ci := 0) (N := 18) (T := TX1) (As := [vI l1, vI l2]) (rest := [vI 0, .ref (xb x + l3)]) (s1 := [vI y5.1, vI 0, .ref (xb x + l3)]) (o := 0) X (con_x_hand K hW sz g l1 l2 (.inr y5) hc5) gwX0_hand_128 hdV_X1_hand ⟨Nat.le_of_ble_eq_true rfl, Nat.le_of_ble_eq_true rfl⟩ rfl (by decide) (hW.at 0 rfl) rfl rfl (Nat.le_of_ble_eq_true rfl) (limcc hKS.2.1) dX0_hand_5 rfl rfl ?_
  refine V_i2l X dX0_hand_8 ?_
  refine V_last (o := l3) (n := 1) X hK3 (by decide) dX0_hand_9 h (fun g9 h => ?_)
  refine V_goto (tgt := 21) X dX0_hand_10 (by decide) ?_
  refine V_iconst X dX0_hand_21 ?_
  have hr := Option.some.inj h
  subst hr
  exact V_endA_i hX rfl hKS dX0_hand_22
set_option maxHeartbeats 4000000 in
theorem con_xLaw0_drop (N : Nat) (l2 : Nat) (K : Nat → Nat) (sz : Nat) (hKS : KS true K sz K sz) (hK2 : K l2 = 40001) (g : GS) (l1 : Int) (r : (Int × S3)) (h : xLaw0_drop N l2 K sz g l1 = some r) : ConAW [(0, 9, 12, 31)] true sz yX0_drop cX0_drop 4 (some .int) 10 224 K (fun b => [.ref (b + 0), vI l1, .ref (b + l2)]) g (fun r => ((fun _ => some (vI r.1)), r.2)) (.inr r) := by
  refine ConAW.of RX0 (by decide) rfl (fun b => Nat.le_of_ble_eq_true rfl) (fun x hX hnm => ?_)
  have X := hX.1
  have h0K := hKS.2.2.1
  have hK2e := hK2
  have hWS := hKS.2.2.2.2 rfl
  have hW := hWS.1
  unfold xLaw0_drop at h
  show V x 4 K (sz - sz) (600 * (sz - sz)) sz g 0 [(0, .ref (xb x + 0)), (1, vI l1), (2, .ref (xb x + l2))] []
  refine V_aload_n X dX0_drop_0 2 rfl ?_
  refine V_iconst X dX0_drop_1 ?_
  refine V_aload_n X dX0_drop_2 0 rfl ?_
  refine V_iload_n X dX0_drop_3 1 rfl ?_
  obtain ⟨c4, hc4, h⟩ := bind_some_eq h
  rcases c4 with ⟨e4_, s4_⟩ | y4
  · replace h := thT_l h
    obtain ⟨hm, h⟩ := lim_some h
    by_cases he4_0 : e4_ = 0
    · rw [if_pos he4_0] at h
      rw [he4_0] at hc4
      refine RunA.catch (name := "java/util/NoSuchElementException") (runV_A (ci := 0) (N := 18) (T := TX1) (As := [vI l1]) (rest := [vI 0, .ref (xb x + l2)]) (o := 0) X hKS.2.1 (ConThr.toA (β := Unit) (v := fun _ => (fun _ => none, K, sz, g)) (con_x_drop K hW N sz g l1 (.inl (0, s4_)) hc4) hm (hKS.here.kEw _ hm)) gwX0_drop_131 hdV_X1_drop ⟨Nat.le_of_ble_eq_true rfl, Nat.le_of_ble_eq_true rfl⟩ rfl (by decide) (hW.at 0 rfl) rfl rfl (Nat.le_of_ble_eq_true rfl) dX0_drop_4 rfl) X hX.2.2.2.1 hX.hA hX.2.2.2.2 [] (0, 9, 12, 31) [] rfl (fun _ h => nomatch h) (by decide) (by decide) q1135 q1150 (fun hKSc => ?_)
      have hK2 := hKS.kp hKSc hK2
      have hKS := hKS.tr hKSc
      have hWS := hKS.2.2.2.2 rfl
      have hW := hWS.1
      refine V_astore_n X dX0_drop_12 (by decide) (L' := [(3, .ref (xb x + sz)), (0, .ref (xb x + 0)), (1, vI l1), (2, .ref (xb x + l2))]) rfl ?_
      refine V_iconst X dX0_drop_13 ?_
      have hr := Option.some.inj h
      subst hr
      exact V_endA_i hX rfl hKS dX0_drop_14
    rw [if_neg he4_0] at h
    cases h
  replace h := thT_r h
  refine V_callV1 (ci := 0) (N := 18) (T := TX1) (As := [vI l1]) (rest := [vI 0, .ref (xb x + l2)]) (s1 := [vI y4.1, vI 0, .ref (xb x + l2)]) (o := 0) X (con_x_drop K hW N sz g l1 (.inr y4) hc4) gwX0_drop_131 hdV_X1_drop ⟨Nat.le_of_ble_eq_true rfl, Nat.le_of_ble_eq_true rfl⟩ rfl (by decide) (hW.at 0 rfl) rfl rfl (Nat.le_of_ble_eq_true rfl) (limcc hKS.2.1) dX0_drop_4 rfl rfl ?_
  refine V_i2l X dX0_drop_7 ?_
  refine V_last (o := l2) (n := 1) X hK2 (by decide) dX0_drop_8 h (fun g8 h => ?_)
  refine V_goto (tgt := 15) X dX0_drop_9 (by decide) ?_
  refine V_iconst X dX0_drop_15 ?_
  have hr := Option.some.inj h
  subst hr
  exact V_endA_i hX rfl hKS dX0_drop_16
