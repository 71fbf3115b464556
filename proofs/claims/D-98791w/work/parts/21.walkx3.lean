set_option maxRecDepth 100000
theorem hdV_X1_isThere : yX1_isThere.cls = RX1 ∧ yX1_isThere.cls ≠ "java/lang/invoke/MethodHandle" ∧ yX1_isThere.cls ≠ "java/lang/invoke/VarHandle" ∧ (parseMethodDescriptor yX1_isThere.desc).map (fun d => d.parameters.length) = some 2 := by decide +kernel
theorem gwX1_isThere_93 : GoodIn lw_all (wsV RX1 93 RX1 yX1_isThere (ws_ yX1_isThere cX1_isThere 3 none)) := lw_V q1144 q1146 qs22 q96 q1147
theorem hdV_X1_within : yX1_within.cls = RX1 ∧ yX1_within.cls ≠ "java/lang/invoke/MethodHandle" ∧ yX1_within.cls ≠ "java/lang/invoke/VarHandle" ∧ (parseMethodDescriptor yX1_within.desc).map (fun d => d.parameters.length) = some 3 := by decide +kernel
theorem gwX1_within_125 : GoodIn lw_all (wsV RX1 125 RX1 yX1_within (ws_ yX1_within cX1_within 4 none)) := lw_V q715 q717 qs8 q96 q718
theorem hdV_X1_deedOf : yX1_deedOf.cls = RX1 ∧ yX1_deedOf.cls ≠ "java/lang/invoke/MethodHandle" ∧ yX1_deedOf.cls ≠ "java/lang/invoke/VarHandle" ∧ (parseMethodDescriptor yX1_deedOf.desc).map (fun d => d.parameters.length) = some 1 := by decide +kernel
theorem gwX1_deedOf_212 : GoodIn lw_all (wsV RX1 212 RX1 yX1_deedOf (ws_ yX1_deedOf cX1_deedOf 2 none)) := lw_V q1140 q1142 qs21 q96 q1143
theorem hdV_X1_personOf : yX1_personOf.cls = RX1 ∧ yX1_personOf.cls ≠ "java/lang/invoke/MethodHandle" ∧ yX1_personOf.cls ≠ "java/lang/invoke/VarHandle" ∧ (parseMethodDescriptor yX1_personOf.desc).map (fun d => d.parameters.length) = some 1 := by decide +kernel
theorem gwX1_personOf_231 : GoodIn lw_all (wsV RX1 231 RX1 yX1_personOf (ws_ yX1_personOf cX1_personOf 2 none)) := lw_V q1170 q1172 qs23 q96 q1173
theorem gwX1_isRain_240 : GoodIn lw_all (wsV RX1 240 RX9 yX9_isRain (ws_ yX9_isRain cX9_isRain 3 (some .boolean))) := lw_V q1188 q587 q588 q104 q589
theorem hdV_X1_lineOf : yX1_lineOf.cls = RX1 ∧ yX1_lineOf.cls ≠ "java/lang/invoke/MethodHandle" ∧ yX1_lineOf.cls ≠ "java/lang/invoke/VarHandle" ∧ (parseMethodDescriptor yX1_lineOf.desc).map (fun d => d.parameters.length) = some 1 := by decide +kernel
theorem gwX1_lineOf_273 : GoodIn lw_all (wsV RX1 273 RX1 yX1_lineOf (ws_ yX1_lineOf cX1_lineOf 2 none)) := lw_V q1206 q1208 qs24 q96 q1209
theorem hdV_X9_ahead : yX9_ahead.cls = RX9 ∧ yX9_ahead.cls ≠ "java/lang/invoke/MethodHandle" ∧ yX9_ahead.cls ≠ "java/lang/invoke/VarHandle" ∧ (parseMethodDescriptor yX9_ahead.desc).map (fun d => d.parameters.length) = some 1 := by decide +kernel
theorem gwX1_ahead_311 : GoodIn lw_all (wsV RX1 311 RX9 yX9_ahead (ws_ yX9_ahead cX9_ahead 4 (some .int))) := lw_V q1238 q1239 q1240 q104 q1241
theorem gwX1_chain_314 : GoodIn lw_all (wsV RX1 314 RX9 yX9_chain (ws_ yX9_chain cX9_chain 4 (some .int))) := lw_V q1249 q1250 q1251 q104 q1252
theorem hdV_X1_few : yX1_few.cls = RX1 ∧ yX1_few.cls ≠ "java/lang/invoke/MethodHandle" ∧ yX1_few.cls ≠ "java/lang/invoke/VarHandle" ∧ (parseMethodDescriptor yX1_few.desc).map (fun d => d.parameters.length) = some 0 := by decide +kernel
theorem gwX1_few_317 : GoodIn lw_all (wsV RX1 317 RX1 yX1_few (ws_ yX1_few cX1_few 1 none)) := lw_V q1263 q1265 qs25 q96 q1266
theorem hdV_X6_finds : yX6_finds.cls = RX6 ∧ yX6_finds.cls ≠ "java/lang/invoke/MethodHandle" ∧ yX6_finds.cls ≠ "java/lang/invoke/VarHandle" ∧ (parseMethodDescriptor yX6_finds.desc).map (fun d => d.parameters.length) = some 1 := by decide +kernel
theorem gwX1_finds_320 : GoodIn lw_all (wsV RX1 320 RX6 yX6_finds (ws_ yX6_finds cX6_finds 2 none)) := lw_V q1282 q1283 q1284 q101 q1285
theorem hdV_X1_jack : yX1_jack.cls = RX1 ∧ yX1_jack.cls ≠ "java/lang/invoke/MethodHandle" ∧ yX1_jack.cls ≠ "java/lang/invoke/VarHandle" ∧ (parseMethodDescriptor yX1_jack.desc).map (fun d => d.parameters.length) = some 2 := by decide +kernel
theorem gwX1_jack_333 : GoodIn lw_all (wsV RX1 333 RX1 yX1_jack (ws_ yX1_jack cX1_jack 3 none)) := lw_V q1316 q1318 qs27 q96 q1319
theorem hdV_X9_sinks : yX9_sinks.cls = RX9 ∧ yX9_sinks.cls ≠ "java/lang/invoke/MethodHandle" ∧ yX9_sinks.cls ≠ "java/lang/invoke/VarHandle" ∧ (parseMethodDescriptor yX9_sinks.desc).map (fun d => d.parameters.length) = some 3 := by decide +kernel
theorem gwX1_sinks_336 : GoodIn lw_all (wsV RX1 336 RX9 yX9_sinks (ws_ yX9_sinks cX9_sinks 6 (some .int))) := lw_V q1320 q1321 q1322 q104 q1323
theorem hdV_X1_strength : yX1_strength.cls = RX1 ∧ yX1_strength.cls ≠ "java/lang/invoke/MethodHandle" ∧ yX1_strength.cls ≠ "java/lang/invoke/VarHandle" ∧ (parseMethodDescriptor yX1_strength.desc).map (fun d => d.parameters.length) = some 1 := by decide +kernel
theorem gwX1_strength_354 : GoodIn lw_all (wsV RX1 354 RX1 yX1_strength (ws_ yX1_strength cX1_strength 2 none)) := lw_V q1349 q1351 qs28 q96 q1352
theorem hdV_X1_loosens : yX1_loosens.cls = RX1 ∧ yX1_loosens.cls ≠ "java/lang/invoke/MethodHandle" ∧ yX1_loosens.cls ≠ "java/lang/invoke/VarHandle" ∧ (parseMethodDescriptor yX1_loosens.desc).map (fun d => d.parameters.length) = some 2 := by decide +kernel
theorem gwX1_loosens_360 : GoodIn lw_all (wsV RX1 360 RX1 yX1_loosens (ws_ yX1_loosens cX1_loosens 3 (some .int))) := lw_V q1356 q1358 qs29 q96 q1359
theorem hdS_X1_part : yX1_part.cls ≠ "java/lang/invoke/MethodHandle" ∧ yX1_part.cls ≠ "java/lang/invoke/VarHandle" ∧ (parseMethodDescriptor yX1_part.desc).map (fun d => d.parameters.length) = some 3 := by decide +kernel
theorem gwX1_part_363 : GoodIn lw_all (va_wsS RX1 363 yX1_part (ws_ yX1_part cX1_part 11 (some .long))) := lw_S q1360 q1361 q96 q1362
theorem hdV_X1_waiting : yX1_waiting.cls = RX1 ∧ yX1_waiting.cls ≠ "java/lang/invoke/MethodHandle" ∧ yX1_waiting.cls ≠ "java/lang/invoke/VarHandle" ∧ (parseMethodDescriptor yX1_waiting.desc).map (fun d => d.parameters.length) = some 2 := by decide +kernel
theorem gwX1_waiting_369 : GoodIn lw_all (wsV RX1 369 RX1 yX1_waiting (ws_ yX1_waiting cX1_waiting 3 none)) := lw_V q1385 q1387 qs30 q96 q1388
theorem hdV_X1_meanOf : yX1_meanOf.cls = RX1 ∧ yX1_meanOf.cls ≠ "java/lang/invoke/MethodHandle" ∧ yX1_meanOf.cls ≠ "java/lang/invoke/VarHandle" ∧ (parseMethodDescriptor yX1_meanOf.desc).map (fun d => d.parameters.length) = some 3 := by decide +kernel
theorem gwX1_meanOf_372 : GoodIn lw_all (wsV RX1 372 RX1 yX1_meanOf (ws_ yX1_meanOf cX1_meanOf 7 (some .long))) := lw_V q1389 q1391 qs31 q96 q1392
theorem hdV_X7_finds : yX7_finds.cls = RX7 ∧ yX7_finds.cls ≠ "java/lang/invoke/MethodHandle" ∧ yX7_finds.cls ≠ "java/lang/invoke/VarHandle" ∧ (parseMethodDescriptor yX7_finds.desc).map (fun d => d.parameters.length) = some 1 := by decide +kernel
theorem gwX1_finds_376 : GoodIn lw_all (wsV RX1 376 RX7 yX7_finds (ws_ yX7_finds cX7_finds 2 none)) := lw_V q1407 q1408 q1409 q102 q1410
theorem gwX1_lacks_384 : GoodIn lw_all (va_wsS RX1 384 yX7_lacks (ws_ yX7_lacks cX7_lacks 4 (some .int))) := lw_S q1427 q1416 q102 q1417
theorem hdV_X8_lays : yX8_lays.cls = RX8 ∧ yX8_lays.cls ≠ "java/lang/invoke/MethodHandle" ∧ yX8_lays.cls ≠ "java/lang/invoke/VarHandle" ∧ (parseMethodDescriptor yX8_lays.desc).map (fun d => d.parameters.length) = some 2 := by decide +kernel
theorem gwX1_lays_390 : GoodIn lw_all (wsV RX1 390 RX8 yX8_lays (ws_ yX8_lays cX8_lays 5 none)) := lw_V q1442 q1443 q1444 q103 q1445
theorem hdV_X1_lost : yX1_lost.cls = RX1 ∧ yX1_lost.cls ≠ "java/lang/invoke/MethodHandle" ∧ yX1_lost.cls ≠ "java/lang/invoke/VarHandle" ∧ (parseMethodDescriptor yX1_lost.desc).map (fun d => d.parameters.length) = some 1 := by decide +kernel
theorem gwX1_lost_417 : GoodIn lw_all (wsV RX1 417 RX1 yX1_lost (ws_ yX1_lost cX1_lost 2 (some (.object "RainWheel$Watch")))) := lw_V q1474 q1476 qs34 q96 q1477
theorem gwX1_allWet_420 : GoodIn lw_all (wsV RX1 420 RX4 yX4_allWet (ws_ yX4_allWet cX4_allWet 3 (some .int))) := lw_V q1482 q1292 q1293 q99 q1294
theorem hdV_X1_changes : yX1_changes.cls = RX1 ∧ yX1_changes.cls ≠ "java/lang/invoke/MethodHandle" ∧ yX1_changes.cls ≠ "java/lang/invoke/VarHandle" ∧ (parseMethodDescriptor yX1_changes.desc).map (fun d => d.parameters.length) = some 0 := by decide +kernel
theorem gwX1_changes_426 : GoodIn lw_all (wsV RX1 426 RX1 yX1_changes (ws_ yX1_changes cX1_changes 1 (some .boolean))) := lw_V q1497 q1499 qs35 q96 q1500
theorem hdV_X3_swaps : yX3_swaps.cls = RX3 ∧ yX3_swaps.cls ≠ "java/lang/invoke/MethodHandle" ∧ yX3_swaps.cls ≠ "java/lang/invoke/VarHandle" ∧ (parseMethodDescriptor yX3_swaps.desc).map (fun d => d.parameters.length) = some 2 := by decide +kernel
theorem gwX1_swaps_429 : GoodIn lw_all (wsV RX1 429 RX3 yX3_swaps (ws_ yX3_swaps cX3_swaps 3 none)) := lw_V q1501 q1502 q1503 q98 q1504
theorem hdV_X3_drops : yX3_drops.cls = RX3 ∧ yX3_drops.cls ≠ "java/lang/invoke/MethodHandle" ∧ yX3_drops.cls ≠ "java/lang/invoke/VarHandle" ∧ (parseMethodDescriptor yX3_drops.desc).map (fun d => d.parameters.length) = some 1 := by decide +kernel
theorem gwX1_drops_432 : GoodIn lw_all (wsV RX1 432 RX3 yX3_drops (ws_ yX3_drops cX3_drops 3 none)) := lw_V q1522 q1523 q1524 q98 q1525
set_option maxHeartbeats 4000000 in
theorem con_x_isThere (K : Nat → Nat) (hW : WFK K) (sz : Nat) (g : GS) (l1 : Int) (l2 : Int) (r : ((Nat × GS) ⊕ GS)) (h : x_isThere g l1 l2 = some r) : ConX sz yX1_isThere cX1_isThere 3 none 7 160 K (fun b => [.ref (b + 0), vI l1, vI l2]) g (fun r => ((fun _ => none), r)) r := by
  refine ConX.of RX1 (by decide) rfl (fun b => Nat.le_of_ble_eq_true rfl) (fun x hX => ?_)
  have X := hX.ok
  have J10 : ∀ (g : GS), x_isThere_j10 g = some r → V x 3 K 0 0 sz g 10 [(0, .ref (xb x + 0))] [] := by
    intro g h
    unfold x_isThere_j10 at h
    refine V_aload_n X dX1_isThere_10 0 rfl ?_
    refine V_get (ci := 0) (N := 18) (C := RX1) (T := TX1) (o := 0) (j := 6) X rfl in_X1 (by decide) (hW.at 0 rfl) (by decide) q483 (fv_1 (i := 12) rfl rfl) dX1_isThere_11 ?_
    refine V_iconst X dX1_isThere_14 ?_
    refine V_dup2 X dX1_isThere_15 rfl rfl ?_
    refine V_iald X (o := 12) (n := 3) (hW.at 12 rfl) (by decide) dX1_isThere_16 h (fun v16 h => ?_)
    refine V_iconst X dX1_isThere_17 ?_
    refine V_iadd X dX1_isThere_18 ?_
    refine V_iast X (o := 12) (n := 3) (hW.at 12 rfl) (by decide) dX1_isThere_19 h (fun g19 h => ?_)
    have hr := Option.some.inj h
    subst hr
    exact V_throw0 (e := 0) (cls := "java/util/NoSuchElementException") hX rfl (by decide) (by decide +kernel) q1148 q123 at_0 (by decide) dX1_isThere_20 dX1_isThere_23 dX1_isThere_24 dX1_isThere_27
  unfold x_isThere at h
  show V x 3 K 0 0 sz g 0 [(0, .ref (xb x + 0)), (1, vI l1), (2, vI l2)] []
  refine V_iload_n X dX1_isThere_0 1 rfl ?_
  refine V_if_lt (tgt := 10) X dX1_isThere_1 (by decide) h (fun h => ?_) (fun h => ?_)
  · exact V_sub [0] rfl (J10 _ h)
  · refine V_iload_n X dX1_isThere_4 1 rfl ?_
    refine V_iload_n X dX1_isThere_5 2 rfl ?_
    refine V_icmp_ge (tgt := 10) X dX1_isThere_6 (by decide) h (fun h => ?_) (fun h => ?_)
    · exact V_sub [0] rfl (J10 _ h)
    · have hr := Option.some.inj h
      subst hr
      exact V_end_v hX rfl dX1_isThere_9
set_option maxHeartbeats 4000000 in
theorem con_x_deedOf (K : Nat → Nat) (hW : WFK K) (sz : Nat) (g : GS) (l1 : Int) (r : ((Nat × GS) ⊕ GS)) (h : x_deedOf K g l1 = some r) : ConX sz yX1_deedOf cX1_deedOf 2 none 8 182 K (fun b => [.ref (b + 0), vI l1]) g (fun r => ((fun _ => none), r)) r := by
  refine ConX.of RX1 (by decide) rfl (fun b => Nat.le_of_ble_eq_true rfl) (fun x hX => ?_)
  have X := hX.ok
  unfold x_deedOf at h
  show V x 2 K 0 0 sz g 0 [(0, .ref (xb x + 0)), (1, vI l1)] []
  refine V_aload_n X dX1_deedOf_0 0 rfl ?_
  refine V_iload_n X dX1_deedOf_1 1 rfl ?_
  refine V_aload_n X dX1_deedOf_2 0 rfl ?_
  obtain ⟨i3, hvi3, hki3, h⟩ := rdR_some h
  refine V_get (ci := 0) (N := 18) (C := RX1) (T := TX1) (o := 0) (j := 12) X rfl in_X1 (by decide) (hW.at 0 rfl) (by decide) q489 (fv_3i rfl hvi3) dX1_deedOf_3 ?_
  refine V_getN (ci := 8) (N := 24) (C := RX9) (T := TX9) (o := i3) (j := 14) X rfl in_X9 (by decide) hki3 (by decide) q404 (fv_0 rfl) dX1_deedOf_6 ?_
  obtain ⟨c9, hc9, h⟩ := bind_some_eq h
  rcases c9 with x9 | y9
  · replace h := thT_l h
    have hr := Option.some.inj h
    subst hr
    exact V_callVT (ci := 0) (N := 18) (T := TX1) (As := [vI l1, vI (gI g 814 i3)]) (rest := []) (o := 0) hX (con_x_isThere K hW sz g l1 (gI g 814 i3) (.inl x9) hc9) gwX1_isThere_93 hdV_X1_isThere ⟨Nat.le_of_ble_eq_true rfl, Nat.le_of_ble_eq_true rfl⟩ rfl (by decide) (hW.at 0 rfl) rfl rfl (Nat.le_of_ble_eq_true rfl) dX1_deedOf_9 rfl
  replace h := thT_r h
  refine V_callV1 (ci := 0) (N := 18) (T := TX1) (As := [vI l1, vI (gI g 814 i3)]) (rest := []) (s1 := []) (o := 0) X (con_x_isThere K hW sz g l1 (gI g 814 i3) (.inr y9) hc9) gwX1_isThere_93 hdV_X1_isThere ⟨Nat.le_of_ble_eq_true rfl, Nat.le_of_ble_eq_true rfl⟩ rfl (by decide) (hW.at 0 rfl) rfl rfl (Nat.le_of_ble_eq_true rfl) ⟨Nat.zero_le _, Nat.zero_le _⟩ dX1_deedOf_9 rfl rfl ?_
  have hr := Option.some.inj h
  subst hr
  exact V_end_v hX rfl dX1_deedOf_12
set_option maxHeartbeats 4000000 in
theorem con_x_personOf (K : Nat → Nat) (hW : WFK K) (sz : Nat) (g : GS) (l1 : Int) (r : ((Nat × GS) ⊕ GS)) (h : x_personOf K g l1 = some r) : ConX sz yX1_personOf cX1_personOf 2 none 8 182 K (fun b => [.ref (b + 0), vI l1]) g (fun r => ((fun _ => none), r)) r := by
  refine ConX.of RX1 (by decide) rfl (fun b => Nat.le_of_ble_eq_true rfl) (fun x hX => ?_)
  have X := hX.ok
  unfold x_personOf at h
  show V x 2 K 0 0 sz g 0 [(0, .ref (xb x + 0)), (1, vI l1)] []
  refine V_aload_n X dX1_personOf_0 0 rfl ?_
  refine V_iload_n X dX1_personOf_1 1 rfl ?_
  refine V_aload_n X dX1_personOf_2 0 rfl ?_
  obtain ⟨i3, hvi3, hki3, h⟩ := rdR_some h
  refine V_get (ci := 0) (N := 18) (C := RX1) (T := TX1) (o := 0) (j := 12) X rfl in_X1 (by decide) (hW.at 0 rfl) (by decide) q489 (fv_3i rfl hvi3) dX1_personOf_3 ?_
  refine V_getN (ci := 8) (N := 24) (C := RX9) (T := TX9) (o := i3) (j := 13) X rfl in_X9 (by decide) hki3 (by decide) q399 (fv_0 rfl) dX1_personOf_6 ?_
  obtain ⟨c9, hc9, h⟩ := bind_some_eq h
  rcases c9 with x9 | y9
  · replace h := thT_l h
    have hr := Option.some.inj h
    subst hr
    exact V_callVT (ci := 0) (N := 18) (T := TX1) (As := [vI l1, vI (gI g 813 i3)]) (rest := []) (o := 0) hX (con_x_isThere K hW sz g l1 (gI g 813 i3) (.inl x9) hc9) gwX1_isThere_93 hdV_X1_isThere ⟨Nat.le_of_ble_eq_true rfl, Nat.le_of_ble_eq_true rfl⟩ rfl (by decide) (hW.at 0 rfl) rfl rfl (Nat.le_of_ble_eq_true rfl) dX1_personOf_9 rfl
  replace h := thT_r h
  refine V_callV1 (ci := 0) (N := 18) (T := TX1) (As := [vI l1, vI (gI g 813 i3)]) (rest := []) (s1 := []) (o := 0) X (con_x_isThere K hW sz g l1 (gI g 813 i3) (.inr y9) hc9) gwX1_isThere_93 hdV_X1_isThere ⟨Nat.le_of_ble_eq_true rfl, Nat.le_of_ble_eq_true rfl⟩ rfl (by decide) (hW.at 0 rfl) rfl rfl (Nat.le_of_ble_eq_true rfl) ⟨Nat.zero_le _, Nat.zero_le _⟩ dX1_personOf_9 rfl rfl ?_
  have hr := Option.some.inj h
  subst hr
  exact V_end_v hX rfl dX1_personOf_12
set_option maxHeartbeats 4000000 in
theorem con_x_lineOf (K : Nat → Nat) (hW : WFK K) (sz : Nat) (g : GS) (l1 : Int) (r : ((Nat × GS) ⊕ GS)) (h : x_lineOf g l1 = some r) : ConX sz yX1_lineOf cX1_lineOf 2 none 8 182 K (fun b => [.ref (b + 0), vI l1]) g (fun r => ((fun _ => none), r)) r := by
  refine ConX.of RX1 (by decide) rfl (fun b => Nat.le_of_ble_eq_true rfl) (fun x hX => ?_)
  have X := hX.ok
  unfold x_lineOf at h
  show V x 2 K 0 0 sz g 0 [(0, .ref (xb x + 0)), (1, vI l1)] []
  refine V_aload_n X dX1_lineOf_0 0 rfl ?_
  refine V_iload_n X dX1_lineOf_1 1 rfl ?_
  refine V_aload_n X dX1_lineOf_2 0 rfl ?_
  refine V_get (ci := 0) (N := 18) (C := RX1) (T := TX1) (o := 0) (j := 2) X rfl in_X1 (by decide) (hW.at 0 rfl) (by decide) q479 (fv_1 (i := 3) rfl rfl) dX1_lineOf_3 ?_
  refine V_getN (ci := 2) (N := 3) (C := RX3) (T := TX3) (o := 3) (j := 2) X rfl in_X3 (by decide) (hW.at 3 rfl) (by decide) q160 (fv_0 rfl) dX1_lineOf_6 ?_
  obtain ⟨c9, hc9, h⟩ := bind_some_eq h
  rcases c9 with x9 | y9
  · replace h := thT_l h
    have hr := Option.some.inj h
    subst hr
    exact V_callVT (ci := 0) (N := 18) (T := TX1) (As := [vI l1, vI (gI g 202 3)]) (rest := []) (o := 0) hX (con_x_isThere K hW sz g l1 (gI g 202 3) (.inl x9) hc9) gwX1_isThere_93 hdV_X1_isThere ⟨Nat.le_of_ble_eq_true rfl, Nat.le_of_ble_eq_true rfl⟩ rfl (by decide) (hW.at 0 rfl) rfl rfl (Nat.le_of_ble_eq_true rfl) dX1_lineOf_9 rfl
  replace h := thT_r h
  refine V_callV1 (ci := 0) (N := 18) (T := TX1) (As := [vI l1, vI (gI g 202 3)]) (rest := []) (s1 := []) (o := 0) X (con_x_isThere K hW sz g l1 (gI g 202 3) (.inr y9) hc9) gwX1_isThere_93 hdV_X1_isThere ⟨Nat.le_of_ble_eq_true rfl, Nat.le_of_ble_eq_true rfl⟩ rfl (by decide) (hW.at 0 rfl) rfl rfl (Nat.le_of_ble_eq_true rfl) ⟨Nat.zero_le _, Nat.zero_le _⟩ dX1_lineOf_9 rfl rfl ?_
  have hr := Option.some.inj h
  subst hr
  exact V_end_v hX rfl dX1_lineOf_12
set_option maxHeartbeats 4000000 in
theorem con_x_within (K : Nat → Nat) (hW : WFK K) (sz : Nat) (g : GS) (l1 : Int) (l2 : Int) (l3 : Int) (r : ((Nat × GS) ⊕ GS)) (h : x_within g l1 l2 l3 = some r) : ConX sz yX1_within cX1_within 4 none 7 160 K (fun b => [.ref (b + 0), vI l1, vI l2, vI l3]) g (fun r => ((fun _ => none), r)) r := by
  refine ConX.of RX1 (by decide) rfl (fun b => Nat.le_of_ble_eq_true rfl) (fun x hX => ?_)
  have X := hX.ok
  have J11 : ∀ (g : GS), x_within_j11 g = some r → V x 4 K 0 0 sz g 11 [(0, .ref (xb x + 0))] [] := by
    intro g h
    unfold x_within_j11 at h
    refine V_aload_n X dX1_within_11 0 rfl ?_
    refine V_get (ci := 0) (N := 18) (C := RX1) (T := TX1) (o := 0) (j := 6) X rfl in_X1 (by decide) (hW.at 0 rfl) (by decide) q483 (fv_1 (i := 12) rfl rfl) dX1_within_12 ?_
    refine V_iconst X dX1_within_15 ?_
    refine V_dup2 X dX1_within_16 rfl rfl ?_
    refine V_iald X (o := 12) (n := 3) (hW.at 12 rfl) (by decide) dX1_within_17 h (fun v17 h => ?_)
    refine V_iconst X dX1_within_18 ?_
    refine V_iadd X dX1_within_19 ?_
    refine V_iast X (o := 12) (n := 3) (hW.at 12 rfl) (by decide) dX1_within_20 h (fun g20 h => ?_)
    have hr := Option.some.inj h
    subst hr
    exact V_throw0 (e := 1) (cls := "java/lang/IllegalArgumentException") hX rfl (by decide) (by decide +kernel) q719 q109 at_1 (by decide) dX1_within_21 dX1_within_24 dX1_within_25 dX1_within_28
  unfold x_within at h
  show V x 4 K 0 0 sz g 0 [(0, .ref (xb x + 0)), (1, vI l1), (2, vI l2), (3, vI l3)] []
  refine V_iload_n X dX1_within_0 1 rfl ?_
  refine V_iload_n X dX1_within_1 2 rfl ?_
  refine V_icmp_lt (tgt := 11) X dX1_within_2 (by decide) h (fun h => ?_) (fun h => ?_)
  · exact V_sub [0] rfl (J11 _ h)
  · refine V_iload_n X dX1_within_5 1 rfl ?_
    refine V_iload_n X dX1_within_6 3 rfl ?_
    refine V_icmp_gt (tgt := 11) X dX1_within_7 (by decide) h (fun h => ?_) (fun h => ?_)
    · exact V_sub [0] rfl (J11 _ h)
    · have hr := Option.some.inj h
      subst hr
      exact V_end_v hX rfl dX1_within_10
set_option maxHeartbeats 4000000 in
theorem con_x_few (K : Nat → Nat) (hW : WFK K) (sz : Nat) (g : GS) (r : ((Nat × GS) ⊕ GS)) (h : x_few K g = some r) : ConX sz yX1_few cX1_few 1 none 7 160 K (fun b => [.ref (b + 0)]) g (fun r => ((fun _ => none), r)) r := by
  refine ConX.of RX1 (by decide) rfl (fun b => Nat.le_of_ble_eq_true rfl) (fun x hX => ?_)
  have X := hX.ok
  unfold x_few at h
  show V x 1 K 0 0 sz g 0 [(0, .ref (xb x + 0))] []
  refine V_aload_n X dX1_few_0 0 rfl ?_
  obtain ⟨i1, hvi1, hki1, h⟩ := rdR_some h
  refine V_get (ci := 0) (N := 18) (C := RX1) (T := TX1) (o := 0) (j := 12) X rfl in_X1 (by decide) (hW.at 0 rfl) (by decide) q489 (fv_3i rfl hvi1) dX1_few_1 ?_
  refine V_getN (ci := 8) (N := 24) (C := RX9) (T := TX9) (o := i1) (j := 14) X rfl in_X9 (by decide) hki1 (by decide) q404 (fv_0 rfl) dX1_few_4 ?_
  refine V_iconst X dX1_few_7 ?_
  refine V_icmp_gt (tgt := 12) X dX1_few_8 (by decide) h (fun h => ?_) (fun h => ?_)
  · refine V_aload_n X dX1_few_12 0 rfl ?_
    refine V_get (ci := 0) (N := 18) (C := RX1) (T := TX1) (o := 0) (j := 6) X rfl in_X1 (by decide) (hW.at 0 rfl) (by decide) q483 (fv_1 (i := 12) rfl rfl) dX1_few_13 ?_
    refine V_iconst X dX1_few_16 ?_
    refine V_dup2 X dX1_few_17 rfl rfl ?_
    refine V_iald X (o := 12) (n := 3) (hW.at 12 rfl) (by decide) dX1_few_18 h (fun v18 h => ?_)
    refine V_iconst X dX1_few_19 ?_
    refine V_iadd X dX1_few_20 ?_
    refine V_iast X (o := 12) (n := 3) (hW.at 12 rfl) (by decide) dX1_few_21 h (fun g21 h => ?_)
    have hr := Option.some.inj h
    subst hr
    exact V_throw0 (e := 2) (cls := "java/lang/IllegalStateException") hX rfl (by decide) (by decide +kernel) q1267 q125 at_2 (by decide) dX1_few_22 dX1_few_25 dX1_few_26 dX1_few_29
  · have hr := Option.some.inj h
    subst hr
    exact V_end_v hX rfl dX1_few_11
set_option maxHeartbeats 4000000 in
theorem con_x_told (K : Nat → Nat) (hW : WFK K) (sz : Nat) (g : GS) (l1 : Int) (r : ((Nat × GS) ⊕ (Int × GS))) (h : x_told K g l1 = some r) : ConX sz yX1_told cX1_told 2 (some .int) 8 183 K (fun b => [.ref (b + 0), vI l1]) g (fun r => ((fun _ => some (vI r.1)), r.2)) r := by
  refine ConX.of RX1 (by decide) rfl (fun b => Nat.le_of_ble_eq_true rfl) (fun x hX => ?_)
  have X := hX.ok
  unfold x_told at h
  show V x 2 K 0 0 sz g 0 [(0, .ref (xb x + 0)), (1, vI l1)] []
  refine V_aload_n X dX1_told_0 0 rfl ?_
  refine V_iload_n X dX1_told_1 1 rfl ?_
  refine V_iconst X dX1_told_2 ?_
  refine V_bipush X dX1_told_3 (by decide) ?_
  obtain ⟨c5, hc5, h⟩ := bind_some_eq h
  rcases c5 with x5 | y5
  · replace h := thT_l h
    have hr := Option.some.inj h
    subst hr
    exact V_callVT (ci := 0) (N := 18) (T := TX1) (As := [vI l1, vI 0, vI 8]) (rest := []) (o := 0) hX (con_x_within K hW sz g l1 0 8 (.inl x5) hc5) gwX1_within_125 hdV_X1_within ⟨Nat.le_of_ble_eq_true rfl, Nat.le_of_ble_eq_true rfl⟩ rfl (by decide) (hW.at 0 rfl) rfl rfl (Nat.le_of_ble_eq_true rfl) dX1_told_5 rfl
  replace h := thT_r h
  refine V_callV1 (ci := 0) (N := 18) (T := TX1) (As := [vI l1, vI 0, vI 8]) (rest := []) (s1 := []) (o := 0) X (con_x_within K hW sz g l1 0 8 (.inr y5) hc5) gwX1_within_125 hdV_X1_within ⟨Nat.le_of_ble_eq_true rfl, Nat.le_of_ble_eq_true rfl⟩ rfl (by decide) (hW.at 0 rfl) rfl rfl (Nat.le_of_ble_eq_true rfl) ⟨Nat.zero_le _, Nat.zero_le _⟩ dX1_told_5 rfl rfl ?_
  refine V_iload_n X dX1_told_8 1 rfl ?_
  by_cases hz0 : w32 l1 = 0
  · rw [if_pos hz0] at h
    refine V_tswIn (tgt := 56) 0 X dX1_told_9 hz0 (by decide) (by decide) rfl (by decide) ?_
    refine V_aload_n X dX1_told_56 0 rfl ?_
    obtain ⟨i57, hvi57, hki57, h⟩ := rdR_some h
    refine V_get (ci := 0) (N := 18) (C := RX1) (T := TX1) (o := 0) (j := 12) X rfl in_X1 (by decide) (hW.at 0 rfl) (by decide) q489 (fv_3i rfl hvi57) dX1_told_57 ?_
    refine V_getN (ci := 8) (N := 24) (C := RX9) (T := TX9) (o := i57) (j := 13) X rfl in_X9 (by decide) hki57 (by decide) q399 (fv_0 rfl) dX1_told_60 ?_
    have hr := Option.some.inj h
    subst hr
    exact V_end_i hX rfl dX1_told_63
  · rw [if_neg hz0] at h
    by_cases hz1 : w32 l1 = 1
    · rw [if_pos hz1] at h
      refine V_tswIn (tgt := 64) 1 X dX1_told_9 hz1 (by decide) (by decide) rfl (by decide) ?_
      refine V_aload_n X dX1_told_64 0 rfl ?_
      obtain ⟨i65, hvi65, hki65, h⟩ := rdR_some h
      refine V_get (ci := 0) (N := 18) (C := RX1) (T := TX1) (o := 0) (j := 12) X rfl in_X1 (by decide) (hW.at 0 rfl) (by decide) q489 (fv_3i rfl hvi65) dX1_told_65 ?_
      refine V_getN (ci := 8) (N := 24) (C := RX9) (T := TX9) (o := i65) (j := 14) X rfl in_X9 (by decide) hki65 (by decide) q404 (fv_0 rfl) dX1_told_68 ?_
      have hr := Option.some.inj h
      subst hr
      exact V_end_i hX rfl dX1_told_71
    · rw [if_neg hz1] at h
      by_cases hz2 : w32 l1 = 2
      · rw [if_pos hz2] at h
        refine V_tswIn (tgt := 72) 2 X dX1_told_9 hz2 (by decide) (by decide) rfl (by decide) ?_
        refine V_aload_n X dX1_told_72 0 rfl ?_
        obtain ⟨i73, hvi73, hki73, h⟩ := rdR_some h
        refine V_get (ci := 0) (N := 18) (C := RX1) (T := TX1) (o := 0) (j := 12) X rfl in_X1 (by decide) (hW.at 0 rfl) (by decide) q489 (fv_3i rfl hvi73) dX1_told_73 ?_
        refine V_getN (ci := 8) (N := 24) (C := RX9) (T := TX9) (o := i73) (j := 16) X rfl in_X9 (by decide) hki73 (by decide) q409 (fv_0 rfl) dX1_told_76 ?_
        have hr := Option.some.inj h
        subst hr
        exact V_end_i hX rfl dX1_told_79
      · rw [if_neg hz2] at h
        by_cases hz3 : w32 l1 = 3
        · rw [if_pos hz3] at h
          refine V_tswIn (tgt := 80) 3 X dX1_told_9 hz3 (by decide) (by decide) rfl (by decide) ?_
          refine V_aload_n X dX1_told_80 0 rfl ?_
          obtain ⟨i81, hvi81, hki81, h⟩ := rdR_some h
          refine V_get (ci := 0) (N := 18) (C := RX1) (T := TX1) (o := 0) (j := 12) X rfl in_X1 (by decide) (hW.at 0 rfl) (by decide) q489 (fv_3i rfl hvi81) dX1_told_81 ?_
          refine V_getN (ci := 8) (N := 24) (C := RX9) (T := TX9) (o := i81) (j := 17) X rfl in_X9 (by decide) hki81 (by decide) q411 (fv_0 rfl) dX1_told_84 ?_
          have hr := Option.some.inj h
          subst hr
          exact V_end_i hX rfl dX1_told_87
        · rw [if_neg hz3] at h
          by_cases hz4 : w32 l1 = 4
          · rw [if_pos hz4] at h
            refine V_tswIn (tgt := 88) 4 X dX1_told_9 hz4 (by decide) (by decide) rfl (by decide) ?_
            refine V_aload_n X dX1_told_88 0 rfl ?_
            obtain ⟨i89, hvi89, hki89, h⟩ := rdR_some h
            refine V_get (ci := 0) (N := 18) (C := RX1) (T := TX1) (o := 0) (j := 12) X rfl in_X1 (by decide) (hW.at 0 rfl) (by decide) q489 (fv_3i rfl hvi89) dX1_told_89 ?_
            refine V_getN (ci := 8) (N := 24) (C := RX9) (T := TX9) (o := i89) (j := 18) X rfl in_X9 (by decide) hki89 (by decide) q413 (fv_0 rfl) dX1_told_92 ?_
            have hr := Option.some.inj h
            subst hr
            exact V_end_i hX rfl dX1_told_95
          · rw [if_neg hz4] at h
            by_cases hz5 : w32 l1 = 5
            · rw [if_pos hz5] at h
              refine V_tswIn (tgt := 96) 5 X dX1_told_9 hz5 (by decide) (by decide) rfl (by decide) ?_
              refine V_aload_n X dX1_told_96 0 rfl ?_
              refine V_get (ci := 0) (N := 18) (C := RX1) (T := TX1) (o := 0) (j := 2) X rfl in_X1 (by decide) (hW.at 0 rfl) (by decide) q479 (fv_1 (i := 3) rfl rfl) dX1_told_97 ?_
              refine V_getN (ci := 2) (N := 3) (C := RX3) (T := TX3) (o := 3) (j := 2) X rfl in_X3 (by decide) (hW.at 3 rfl) (by decide) q160 (fv_0 rfl) dX1_told_100 ?_
              have hr := Option.some.inj h
              subst hr
              exact V_end_i hX rfl dX1_told_103
            · rw [if_neg hz5] at h
              by_cases hz6 : w32 l1 = 6
              · rw [if_pos hz6] at h
                refine V_tswIn (tgt := 104) 6 X dX1_told_9 hz6 (by decide) (by decide) rfl (by decide) ?_
                refine V_aload_n X dX1_told_104 0 rfl ?_
                refine V_get (ci := 0) (N := 18) (C := RX1) (T := TX1) (o := 0) (j := 15) X rfl in_X1 (by decide) (hW.at 0 rfl) (by decide) q492 (fv_0 rfl) dX1_told_105 ?_
                have hr := Option.some.inj h
                subst hr
                exact V_end_i hX rfl dX1_told_108
              · rw [if_neg hz6] at h
                by_cases hz7 : w32 l1 = 7
                · rw [if_pos hz7] at h
                  refine V_tswIn (tgt := 109) 7 X dX1_told_9 hz7 (by decide) (by decide) rfl (by decide) ?_
                  refine V_aload_n X dX1_told_109 0 rfl ?_
                  obtain ⟨i110, hvi110, hki110, h⟩ := rdR_some h
                  refine V_get (ci := 0) (N := 18) (C := RX1) (T := TX1) (o := 0) (j := 12) X rfl in_X1 (by decide) (hW.at 0 rfl) (by decide) q489 (fv_3i rfl hvi110) dX1_told_110 ?_
                  refine V_getN (ci := 8) (N := 24) (C := RX9) (T := TX9) (o := i110) (j := 19) X rfl in_X9 (by decide) hki110 (by decide) q416 (fv_0 rfl) dX1_told_113 ?_
                  have hr := Option.some.inj h
                  subst hr
                  exact V_end_i hX rfl dX1_told_116
                · rw [if_neg hz7] at h
                  refine V_tswOut (tgt := 117) X dX1_told_9 (by omega) (by decide) ?_
                  refine V_aload_n X dX1_told_117 0 rfl ?_
                  obtain ⟨i118, hvi118, hki118, h⟩ := rdR_some h
                  refine V_get (ci := 0) (N := 18) (C := RX1) (T := TX1) (o := 0) (j := 12) X rfl in_X1 (by decide) (hW.at 0 rfl) (by decide) q489 (fv_3i rfl hvi118) dX1_told_118 ?_
                  refine V_getN (ci := 8) (N := 24) (C := RX9) (T := TX9) (o := i118) (j := 20) X rfl in_X9 (by decide) hki118 (by decide) q419 (fv_0 rfl) dX1_told_121 ?_
                  have hr := Option.some.inj h
                  subst hr
                  exact V_end_i hX rfl dX1_told_124
set_option maxHeartbeats 4000000 in
theorem con_x_deed (K : Nat → Nat) (hW : WFK K) (sz : Nat) (g : GS) (l1 : Int) (l2 : Int) (r : ((Nat × GS) ⊕ (Int × GS))) (h : x_deed K g l1 l2 = some r) : ConX sz yX1_deed cX1_deed 3 (some .int) 9 203 K (fun b => [.ref (b + 0), vI l1, vI l2]) g (fun r => ((fun _ => some (vI r.1)), r.2)) r := by
  refine ConX.of RX1 (by decide) rfl (fun b => Nat.le_of_ble_eq_true rfl) (fun x hX => ?_)
  have X := hX.ok
  unfold x_deed at h
  show V x 3 K 0 0 sz g 0 [(0, .ref (xb x + 0)), (1, vI l1), (2, vI l2)] []
  refine V_aload_n X dX1_deed_0 0 rfl ?_
  refine V_iload_n X dX1_deed_1 1 rfl ?_
  obtain ⟨c2, hc2, h⟩ := bind_some_eq h
  rcases c2 with x2 | y2
  · replace h := thT_l h
    have hr := Option.some.inj h
    subst hr
    exact V_callVT (ci := 0) (N := 18) (T := TX1) (As := [vI l1]) (rest := []) (o := 0) hX (con_x_deedOf K hW sz g l1 (.inl x2) hc2) gwX1_deedOf_212 hdV_X1_deedOf ⟨Nat.le_of_ble_eq_true rfl, Nat.le_of_ble_eq_true rfl⟩ rfl (by decide) (hW.at 0 rfl) rfl rfl (Nat.le_of_ble_eq_true rfl) dX1_deed_2 rfl
  replace h := thT_r h
  refine V_callV1 (ci := 0) (N := 18) (T := TX1) (As := [vI l1]) (rest := []) (s1 := []) (o := 0) X (con_x_deedOf K hW sz g l1 (.inr y2) hc2) gwX1_deedOf_212 hdV_X1_deedOf ⟨Nat.le_of_ble_eq_true rfl, Nat.le_of_ble_eq_true rfl⟩ rfl (by decide) (hW.at 0 rfl) rfl rfl (Nat.le_of_ble_eq_true rfl) ⟨Nat.zero_le _, Nat.zero_le _⟩ dX1_deed_2 rfl rfl ?_
  refine V_aload_n X dX1_deed_5 0 rfl ?_
  refine V_iload_n X dX1_deed_6 2 rfl ?_
  refine V_iconst X dX1_deed_7 ?_
  refine V_iconst X dX1_deed_8 ?_
  obtain ⟨c9, hc9, h⟩ := bind_some_eq h
  rcases c9 with x9 | y9
  · replace h := thT_l h
    have hr := Option.some.inj h
    subst hr
    exact V_callVT (ci := 0) (N := 18) (T := TX1) (As := [vI l2, vI 0, vI 4]) (rest := []) (o := 0) hX (con_x_within K hW sz y2 l2 0 4 (.inl x9) hc9) gwX1_within_125 hdV_X1_within ⟨Nat.le_of_ble_eq_true rfl, Nat.le_of_ble_eq_true rfl⟩ rfl (by decide) (hW.at 0 rfl) rfl rfl (Nat.le_of_ble_eq_true rfl) dX1_deed_9 rfl
  replace h := thT_r h
  refine V_callV1 (ci := 0) (N := 18) (T := TX1) (As := [vI l2, vI 0, vI 4]) (rest := []) (s1 := []) (o := 0) X (con_x_within K hW sz y2 l2 0 4 (.inr y9) hc9) gwX1_within_125 hdV_X1_within ⟨Nat.le_of_ble_eq_true rfl, Nat.le_of_ble_eq_true rfl⟩ rfl (by decide) (hW.at 0 rfl) rfl rfl (Nat.le_of_ble_eq_true rfl) ⟨Nat.zero_le _, Nat.zero_le _⟩ dX1_deed_9 rfl rfl ?_
  refine V_iload_n X dX1_deed_12 2 rfl ?_
  by_cases hz0 : w32 l2 = 0
  · rw [if_pos hz0] at h
    refine V_tswIn (tgt := 44) 0 X dX1_deed_13 hz0 (by decide) (by decide) rfl (by decide) ?_
    refine V_aload_n X dX1_deed_44 0 rfl ?_
    obtain ⟨i45, hvi45, hki45, h⟩ := rdR_some h
    refine V_get (ci := 0) (N := 18) (C := RX1) (T := TX1) (o := 0) (j := 12) X rfl in_X1 (by decide) (hW.at 0 rfl) (by decide) q489 (fv_3i rfl hvi45) dX1_deed_45 ?_
    refine V_getN (ci := 8) (N := 24) (C := RX9) (T := TX9) (o := i45) (j := 1) X rfl in_X9 (by decide) hki45 (by decide) q361 (fv_1 (i := (i45 + 2)) rfl rfl) dX1_deed_48 ?_
    refine V_iload_n X dX1_deed_51 1 rfl ?_
    refine V_iald X (o := (i45 + 2)) (n := 12) (hW.blk (by decide) hki45 2 (by decide) rfl) (by decide) dX1_deed_52 h (fun v52 h => ?_)
    have hr := Option.some.inj h
    subst hr
    exact V_end_i hX rfl dX1_deed_53
  · rw [if_neg hz0] at h
    by_cases hz1 : w32 l2 = 1
    · rw [if_pos hz1] at h
      refine V_tswIn (tgt := 54) 1 X dX1_deed_13 hz1 (by decide) (by decide) rfl (by decide) ?_
      refine V_aload_n X dX1_deed_54 0 rfl ?_
      obtain ⟨i55, hvi55, hki55, h⟩ := rdR_some h
      refine V_get (ci := 0) (N := 18) (C := RX1) (T := TX1) (o := 0) (j := 12) X rfl in_X1 (by decide) (hW.at 0 rfl) (by decide) q489 (fv_3i rfl hvi55) dX1_deed_55 ?_
      refine V_getN (ci := 8) (N := 24) (C := RX9) (T := TX9) (o := i55) (j := 2) X rfl in_X9 (by decide) hki55 (by decide) q365 (fv_1 (i := (i55 + 3)) rfl rfl) dX1_deed_58 ?_
      refine V_iload_n X dX1_deed_61 1 rfl ?_
      refine V_iald X (o := (i55 + 3)) (n := 12) (hW.blk (by decide) hki55 3 (by decide) rfl) (by decide) dX1_deed_62 h (fun v62 h => ?_)
      have hr := Option.some.inj h
      subst hr
      exact V_end_i hX rfl dX1_deed_63
    · rw [if_neg hz1] at h
      by_cases hz2 : w32 l2 = 2
      · rw [if_pos hz2] at h
        refine V_tswIn (tgt := 64) 2 X dX1_deed_13 hz2 (by decide) (by decide) rfl (by decide) ?_
        refine V_aload_n X dX1_deed_64 0 rfl ?_
        obtain ⟨i65, hvi65, hki65, h⟩ := rdR_some h
        refine V_get (ci := 0) (N := 18) (C := RX1) (T := TX1) (o := 0) (j := 12) X rfl in_X1 (by decide) (hW.at 0 rfl) (by decide) q489 (fv_3i rfl hvi65) dX1_deed_65 ?_
        refine V_getN (ci := 8) (N := 24) (C := RX9) (T := TX9) (o := i65) (j := 3) X rfl in_X9 (by decide) hki65 (by decide) q369 (fv_1 (i := (i65 + 4)) rfl rfl) dX1_deed_68 ?_
        refine V_iload_n X dX1_deed_71 1 rfl ?_
        refine V_iald X (o := (i65 + 4)) (n := 12) (hW.blk (by decide) hki65 4 (by decide) rfl) (by decide) dX1_deed_72 h (fun v72 h => ?_)
        have hr := Option.some.inj h
        subst hr
        exact V_end_i hX rfl dX1_deed_73
      · rw [if_neg hz2] at h
        by_cases hz3 : w32 l2 = 3
        · rw [if_pos hz3] at h
          refine V_tswIn (tgt := 74) 3 X dX1_deed_13 hz3 (by decide) (by decide) rfl (by decide) ?_
          refine V_aload_n X dX1_deed_74 0 rfl ?_
          obtain ⟨i75, hvi75, hki75, h⟩ := rdR_some h
          refine V_get (ci := 0) (N := 18) (C := RX1) (T := TX1) (o := 0) (j := 12) X rfl in_X1 (by decide) (hW.at 0 rfl) (by decide) q489 (fv_3i rfl hvi75) dX1_deed_75 ?_
          refine V_getN (ci := 8) (N := 24) (C := RX9) (T := TX9) (o := i75) (j := 4) X rfl in_X9 (by decide) hki75 (by decide) q372 (fv_1 (i := (i75 + 5)) rfl rfl) dX1_deed_78 ?_
          refine V_iload_n X dX1_deed_81 1 rfl ?_
          refine V_iald X (o := (i75 + 5)) (n := 12) (hW.blk (by decide) hki75 5 (by decide) rfl) (by decide) dX1_deed_82 h (fun v82 h => ?_)
          have hr := Option.some.inj h
          subst hr
          exact V_end_i hX rfl dX1_deed_83
        · rw [if_neg hz3] at h
          refine V_tswOut (tgt := 84) X dX1_deed_13 (by omega) (by decide) ?_
          refine V_aload_n X dX1_deed_84 0 rfl ?_
          obtain ⟨i85, hvi85, hki85, h⟩ := rdR_some h
          refine V_get (ci := 0) (N := 18) (C := RX1) (T := TX1) (o := 0) (j := 12) X rfl in_X1 (by decide) (hW.at 0 rfl) (by decide) q489 (fv_3i rfl hvi85) dX1_deed_85 ?_
          refine V_getN (ci := 8) (N := 24) (C := RX9) (T := TX9) (o := i85) (j := 5) X rfl in_X9 (by decide) hki85 (by decide) q376 (fv_1 (i := (i85 + 6)) rfl rfl) dX1_deed_88 ?_
          refine V_iload_n X dX1_deed_91 1 rfl ?_
          refine V_iald X (o := (i85 + 6)) (n := 12) (hW.blk (by decide) hki85 6 (by decide) rfl) (by decide) dX1_deed_92 h (fun v92 h => ?_)
          have hr := Option.some.inj h
          subst hr
          exact V_end_i hX rfl dX1_deed_93
set_option maxHeartbeats 4000000 in
theorem con_x_strong (K : Nat → Nat) (hW : WFK K) (sz : Nat) (g : GS) (l1 : Int) (r : ((Nat × GS) ⊕ (Int × GS))) (h : x_strong K g l1 = some r) : ConX sz yX1_strong cX1_strong 2 (some .int) 9 203 K (fun b => [.ref (b + 0), vI l1]) g (fun r => ((fun _ => some (vI r.1)), r.2)) r := by
  refine ConX.of RX1 (by decide) rfl (fun b => Nat.le_of_ble_eq_true rfl) (fun x hX => ?_)
  have X := hX.ok
  unfold x_strong at h
  show V x 2 K 0 0 sz g 0 [(0, .ref (xb x + 0)), (1, vI l1)] []
  refine V_aload_n X dX1_strong_0 0 rfl ?_
  refine V_iload_n X dX1_strong_1 1 rfl ?_
  obtain ⟨c2, hc2, h⟩ := bind_some_eq h
  rcases c2 with x2 | y2
  · replace h := thT_l h
    have hr := Option.some.inj h
    subst hr
    exact V_callVT (ci := 0) (N := 18) (T := TX1) (As := [vI l1]) (rest := []) (o := 0) hX (con_x_personOf K hW sz g l1 (.inl x2) hc2) gwX1_personOf_231 hdV_X1_personOf ⟨Nat.le_of_ble_eq_true rfl, Nat.le_of_ble_eq_true rfl⟩ rfl (by decide) (hW.at 0 rfl) rfl rfl (Nat.le_of_ble_eq_true rfl) dX1_strong_2 rfl
  replace h := thT_r h
  refine V_callV1 (ci := 0) (N := 18) (T := TX1) (As := [vI l1]) (rest := []) (s1 := []) (o := 0) X (con_x_personOf K hW sz g l1 (.inr y2) hc2) gwX1_personOf_231 hdV_X1_personOf ⟨Nat.le_of_ble_eq_true rfl, Nat.le_of_ble_eq_true rfl⟩ rfl (by decide) (hW.at 0 rfl) rfl rfl (Nat.le_of_ble_eq_true rfl) ⟨Nat.zero_le _, Nat.zero_le _⟩ dX1_strong_2 rfl rfl ?_
  refine V_aload_n X dX1_strong_5 0 rfl ?_
  obtain ⟨i6, hvi6, hki6, h⟩ := rdR_some h
  refine V_get (ci := 0) (N := 18) (C := RX1) (T := TX1) (o := 0) (j := 12) X rfl in_X1 (by decide) (hW.at 0 rfl) (by decide) q489 (fv_3i rfl hvi6) dX1_strong_6 ?_
  refine V_getN (ci := 8) (N := 24) (C := RX9) (T := TX9) (o := i6) (j := 0) X rfl in_X9 (by decide) hki6 (by decide) q357 (fv_1 (i := (i6 + 1)) rfl rfl) dX1_strong_9 ?_
  refine V_iload_n X dX1_strong_12 1 rfl ?_
  refine V_iald X (o := (i6 + 1)) (n := 4) (hW.blk (by decide) hki6 1 (by decide) rfl) (by decide) dX1_strong_13 h (fun v13 h => ?_)
  have hr := Option.some.inj h
  subst hr
  exact V_end_i hX rfl dX1_strong_14
set_option maxHeartbeats 4000000 in
theorem con_x_bears (K : Nat → Nat) (hW : WFK K) (sz : Nat) (g : GS) (l1 : Int) (r : ((Nat × GS) ⊕ (Int × GS))) (h : x_bears K g l1 = some r) : ConX sz yX1_bears cX1_bears 2 (some .int) 8 183 K (fun b => [.ref (b + 0), vI l1]) g (fun r => ((fun _ => some (vI r.1)), r.2)) r := by
  refine ConX.of RX1 (by decide) rfl (fun b => Nat.le_of_ble_eq_true rfl) (fun x hX => ?_)
  have X := hX.ok
  unfold x_bears at h
  show V x 2 K 0 0 sz g 0 [(0, .ref (xb x + 0)), (1, vI l1)] []
  refine V_aload_n X dX1_bears_0 0 rfl ?_
  refine V_iload_n X dX1_bears_1 1 rfl ?_
  refine V_iconst X dX1_bears_2 ?_
  refine V_bipush X dX1_bears_3 (by decide) ?_
  obtain ⟨c5, hc5, h⟩ := bind_some_eq h
  rcases c5 with x5 | y5
  · replace h := thT_l h
    have hr := Option.some.inj h
    subst hr
    exact V_callVT (ci := 0) (N := 18) (T := TX1) (As := [vI l1, vI 0, vI 59]) (rest := []) (o := 0) hX (con_x_within K hW sz g l1 0 59 (.inl x5) hc5) gwX1_within_125 hdV_X1_within ⟨Nat.le_of_ble_eq_true rfl, Nat.le_of_ble_eq_true rfl⟩ rfl (by decide) (hW.at 0 rfl) rfl rfl (Nat.le_of_ble_eq_true rfl) dX1_bears_5 rfl
  replace h := thT_r h
  refine V_callV1 (ci := 0) (N := 18) (T := TX1) (As := [vI l1, vI 0, vI 59]) (rest := []) (s1 := []) (o := 0) X (con_x_within K hW sz g l1 0 59 (.inr y5) hc5) gwX1_within_125 hdV_X1_within ⟨Nat.le_of_ble_eq_true rfl, Nat.le_of_ble_eq_true rfl⟩ rfl (by decide) (hW.at 0 rfl) rfl rfl (Nat.le_of_ble_eq_true rfl) ⟨Nat.zero_le _, Nat.zero_le _⟩ dX1_bears_5 rfl rfl ?_
  refine V_aload_n X dX1_bears_8 0 rfl ?_
  obtain ⟨i9, hvi9, hki9, h⟩ := rdR_some h
  refine V_get (ci := 0) (N := 18) (C := RX1) (T := TX1) (o := 0) (j := 12) X rfl in_X1 (by decide) (hW.at 0 rfl) (by decide) q489 (fv_3i rfl hvi9) dX1_bears_9 ?_
  refine V_getN (ci := 8) (N := 24) (C := RX9) (T := TX9) (o := i9) (j := 8) X rfl in_X9 (by decide) hki9 (by decide) q383 (fv_1 (i := (i9 + 9)) rfl rfl) dX1_bears_12 ?_
  refine V_iload_n X dX1_bears_15 1 rfl ?_
  refine V_iald X (o := (i9 + 9)) (n := 60) (hW.blk (by decide) hki9 9 (by decide) rfl) (by decide) dX1_bears_16 h (fun v16 h => ?_)
  have hr := Option.some.inj h
  subst hr
  exact V_end_i hX rfl dX1_bears_17
set_option maxHeartbeats 4000000 in
theorem con_x_rains (K : Nat → Nat) (hW : WFK K) (N : Nat) (sz : Nat) (g : GS) (l1 : Int) (r : ((Nat × GS) ⊕ (Int × GS))) (h : x_rains N K g l1 = some r) : ConX sz yX1_rains cX1_rains 2 (some .boolean) 8 183 K (fun b => [.ref (b + 0), vI l1]) g (fun r => ((fun _ => some (vI r.1)), r.2)) r := by
  refine ConX.of RX1 (by decide) rfl (fun b => Nat.le_of_ble_eq_true rfl) (fun x hX => ?_)
  have X := hX.ok
  unfold x_rains at h
  show V x 2 K 0 0 sz g 0 [(0, .ref (xb x + 0)), (1, vI l1)] []
  refine V_aload_n X dX1_rains_0 0 rfl ?_
  refine V_iload_n X dX1_rains_1 1 rfl ?_
  refine V_iconst X dX1_rains_2 ?_
  refine V_sipush X dX1_rains_3 (by decide) ?_
  obtain ⟨c6, hc6, h⟩ := bind_some_eq h
  rcases c6 with x6 | y6
  · replace h := thT_l h
    have hr := Option.some.inj h
    subst hr
    exact V_callVT (ci := 0) (N := 18) (T := TX1) (As := [vI l1, vI 0, vI 240]) (rest := []) (o := 0) hX (con_x_within K hW sz g l1 0 240 (.inl x6) hc6) gwX1_within_125 hdV_X1_within ⟨Nat.le_of_ble_eq_true rfl, Nat.le_of_ble_eq_true rfl⟩ rfl (by decide) (hW.at 0 rfl) rfl rfl (Nat.le_of_ble_eq_true rfl) dX1_rains_6 rfl
  replace h := thT_r h
  refine V_callV1 (ci := 0) (N := 18) (T := TX1) (As := [vI l1, vI 0, vI 240]) (rest := []) (s1 := []) (o := 0) X (con_x_within K hW sz g l1 0 240 (.inr y6) hc6) gwX1_within_125 hdV_X1_within ⟨Nat.le_of_ble_eq_true rfl, Nat.le_of_ble_eq_true rfl⟩ rfl (by decide) (hW.at 0 rfl) rfl rfl (Nat.le_of_ble_eq_true rfl) ⟨Nat.zero_le _, Nat.zero_le _⟩ dX1_rains_6 rfl rfl ?_
  refine V_aload_n X dX1_rains_9 0 rfl ?_
  obtain ⟨i10, hvi10, hki10, h⟩ := rdR_some h
  refine V_get (ci := 0) (N := 18) (C := RX1) (T := TX1) (o := 0) (j := 12) X rfl in_X1 (by decide) (hW.at 0 rfl) (by decide) q489 (fv_3i rfl hvi10) dX1_rains_10 ?_
  refine V_iload_n X dX1_rains_13 1 rfl ?_
  obtain ⟨c14, hc14, h⟩ := bind_some_eq h
  refine V_callV (ci := 8) (N := 24) (T := TX9) (As := [vI l1]) (rest := []) (s1 := [vI c14]) (o := i10) X (con_xRoad_isRain K hW N i10 hki10 y6 l1 c14 hc14) gwX1_isRain_240 hdV_X9_isRain ⟨Nat.le_of_ble_eq_true rfl, Nat.le_of_ble_eq_true rfl⟩ rfl (by decide) hki10 rfl rfl (Nat.le_of_ble_eq_true rfl) ⟨Nat.zero_le _, Nat.zero_le _⟩ dX1_rains_14 rfl rfl ?_
  obtain ⟨h01, h⟩ := rtZ_some h
  have hr := Option.some.inj h
  subst hr
  exact V_end_z hX h01 rfl dX1_rains_17
set_option maxHeartbeats 4000000 in
theorem con_x_line (K : Nat → Nat) (hW : WFK K) (N : Nat) (sz : Nat) (g : GS) (l1 : Int) (l2 : Int) (r : ((Nat × GS) ⊕ (Int × GS))) (h : x_line N K g l1 l2 = some r) : ConX sz yX1_line cX1_line 3 (some .int) 211 5033 K (fun b => [.ref (b + 0), vI l1, vI l2]) g (fun r => ((fun _ => some (vI r.1)), r.2)) r := by
  refine ConX.of RX1 (by decide) rfl (fun b => Nat.le_of_ble_eq_true rfl) (fun x hX => ?_)
  have X := hX.ok
  unfold x_line at h
  show V x 3 K 0 0 sz g 0 [(0, .ref (xb x + 0)), (1, vI l1), (2, vI l2)] []
  refine V_aload_n X dX1_line_0 0 rfl ?_
  refine V_iload_n X dX1_line_1 1 rfl ?_
  obtain ⟨c2, hc2, h⟩ := bind_some_eq h
  rcases c2 with x2 | y2
  · replace h := thT_l h
    have hr := Option.some.inj h
    subst hr
    exact V_callVT (ci := 0) (N := 18) (T := TX1) (As := [vI l1]) (rest := []) (o := 0) hX (con_x_lineOf K hW sz g l1 (.inl x2) hc2) gwX1_lineOf_273 hdV_X1_lineOf ⟨Nat.le_of_ble_eq_true rfl, Nat.le_of_ble_eq_true rfl⟩ rfl (by decide) (hW.at 0 rfl) rfl rfl (Nat.le_of_ble_eq_true rfl) dX1_line_2 rfl
  replace h := thT_r h
  refine V_callV1 (ci := 0) (N := 18) (T := TX1) (As := [vI l1]) (rest := []) (s1 := []) (o := 0) X (con_x_lineOf K hW sz g l1 (.inr y2) hc2) gwX1_lineOf_273 hdV_X1_lineOf ⟨Nat.le_of_ble_eq_true rfl, Nat.le_of_ble_eq_true rfl⟩ rfl (by decide) (hW.at 0 rfl) rfl rfl (Nat.le_of_ble_eq_true rfl) ⟨Nat.zero_le _, Nat.zero_le _⟩ dX1_line_2 rfl rfl ?_
  refine V_aload_n X dX1_line_5 0 rfl ?_
  refine V_iload_n X dX1_line_6 2 rfl ?_
  refine V_iconst X dX1_line_7 ?_
  refine V_iconst X dX1_line_8 ?_
  obtain ⟨c9, hc9, h⟩ := bind_some_eq h
  rcases c9 with x9 | y9
  · replace h := thT_l h
    have hr := Option.some.inj h
    subst hr
    exact V_callVT (ci := 0) (N := 18) (T := TX1) (As := [vI l2, vI 0, vI 4]) (rest := []) (o := 0) hX (con_x_within K hW sz y2 l2 0 4 (.inl x9) hc9) gwX1_within_125 hdV_X1_within ⟨Nat.le_of_ble_eq_true rfl, Nat.le_of_ble_eq_true rfl⟩ rfl (by decide) (hW.at 0 rfl) rfl rfl (Nat.le_of_ble_eq_true rfl) dX1_line_9 rfl
  replace h := thT_r h
  refine V_callV1 (ci := 0) (N := 18) (T := TX1) (As := [vI l2, vI 0, vI 4]) (rest := []) (s1 := []) (o := 0) X (con_x_within K hW sz y2 l2 0 4 (.inr y9) hc9) gwX1_within_125 hdV_X1_within ⟨Nat.le_of_ble_eq_true rfl, Nat.le_of_ble_eq_true rfl⟩ rfl (by decide) (hW.at 0 rfl) rfl rfl (Nat.le_of_ble_eq_true rfl) ⟨Nat.zero_le _, Nat.zero_le _⟩ dX1_line_9 rfl rfl ?_
  refine V_aload_n X dX1_line_12 0 rfl ?_
  obtain ⟨c13, hc13, h⟩ := bind_some_eq h
  refine V_callV (ci := 0) (N := 18) (T := TX1) (As := []) (rest := []) (s1 := [.ref (xb x + 14)]) (o := 0) X (con_x_gone K hW N y9 c13 hc13) gwX1_gone_276 hdV_X1_gone ⟨Nat.le_of_ble_eq_true rfl, Nat.le_of_ble_eq_true rfl⟩ rfl (by decide) (hW.at 0 rfl) rfl rfl (Nat.le_of_ble_eq_true rfl) ⟨Nat.zero_le _, Nat.zero_le _⟩ dX1_line_13 rfl rfl ?_
  refine V_pop X dX1_line_16 rfl ?_
  refine V_iload_n X dX1_line_17 2 rfl ?_
  by_cases hz0 : w32 l2 = 0
  · rw [if_pos hz0] at h
    refine V_tswIn (tgt := 48) 0 X dX1_line_18 hz0 (by decide) (by decide) rfl (by decide) ?_
    refine V_aload_n X dX1_line_48 0 rfl ?_
    refine V_get (ci := 0) (N := 18) (C := RX1) (T := TX1) (o := 0) (j := 2) X rfl in_X1 (by decide) (hW.at 0 rfl) (by decide) q479 (fv_1 (i := 3) rfl rfl) dX1_line_49 ?_
    refine V_getN (ci := 2) (N := 3) (C := RX3) (T := TX3) (o := 3) (j := 0) X rfl in_X3 (by decide) (hW.at 3 rfl) (by decide) q154 (fv_1 (i := 4) rfl rfl) dX1_line_52 ?_
    refine V_iload_n X dX1_line_55 1 rfl ?_
    refine V_iald X (o := 4) (n := 12) (hW.at 4 rfl) (by decide) dX1_line_56 h (fun v56 h => ?_)
    have hr := Option.some.inj h
    subst hr
    exact V_end_i hX rfl dX1_line_57
  · rw [if_neg hz0] at h
    by_cases hz1 : w32 l2 = 1
    · rw [if_pos hz1] at h
      refine V_tswIn (tgt := 58) 1 X dX1_line_18 hz1 (by decide) (by decide) rfl (by decide) ?_
      refine V_aload_n X dX1_line_58 0 rfl ?_
      refine V_get (ci := 0) (N := 18) (C := RX1) (T := TX1) (o := 0) (j := 2) X rfl in_X1 (by decide) (hW.at 0 rfl) (by decide) q479 (fv_1 (i := 3) rfl rfl) dX1_line_59 ?_
      refine V_getN (ci := 2) (N := 3) (C := RX3) (T := TX3) (o := 3) (j := 1) X rfl in_X3 (by decide) (hW.at 3 rfl) (by decide) q157 (fv_1 (i := 5) rfl rfl) dX1_line_62 ?_
      refine V_iload_n X dX1_line_65 1 rfl ?_
      refine V_iald X (o := 5) (n := 12) (hW.at 5 rfl) (by decide) dX1_line_66 h (fun v66 h => ?_)
      have hr := Option.some.inj h
      subst hr
      exact V_end_i hX rfl dX1_line_67
    · rw [if_neg hz1] at h
      by_cases hz2 : w32 l2 = 2
      · rw [if_pos hz2] at h
        refine V_tswIn (tgt := 68) 2 X dX1_line_18 hz2 (by decide) (by decide) rfl (by decide) ?_
        refine V_aload_n X dX1_line_68 0 rfl ?_
        refine V_get (ci := 0) (N := 18) (C := RX1) (T := TX1) (o := 0) (j := 8) X rfl in_X1 (by decide) (hW.at 0 rfl) (by decide) q485 (fv_1 (i := 14) rfl rfl) dX1_line_69 ?_
        refine V_getN (ci := 3) (N := 15) (C := RX4) (T := TX4) (o := 14) (j := 0) X rfl in_X4 (by decide) (hW.at 14 rfl) (by decide) q218 (fv_1 (i := 15) rfl rfl) dX1_line_72 ?_
        refine V_iload_n X dX1_line_75 1 rfl ?_
        refine V_iald X (o := 15) (n := 12) (hW.at 15 rfl) (by decide) dX1_line_76 h (fun v76 h => ?_)
        refine V_iconst X dX1_line_77 ?_
        refine V_icmp_ne (tgt := 85) X dX1_line_78 (by decide) h (fun h => ?_) (fun h => ?_)
        · refine V_iconst X dX1_line_85 ?_
          have hr := Option.some.inj h
          subst hr
          exact V_end_i hX rfl dX1_line_86
        · refine V_iconst X dX1_line_81 ?_
          refine V_goto (tgt := 86) X dX1_line_82 (by decide) ?_
          have hr := Option.some.inj h
          subst hr
          exact V_end_i hX rfl dX1_line_86
      · rw [if_neg hz2] at h
        by_cases hz3 : w32 l2 = 3
        · rw [if_pos hz3] at h
          refine V_tswIn (tgt := 87) 3 X dX1_line_18 hz3 (by decide) (by decide) rfl (by decide) ?_
          refine V_aload_n X dX1_line_87 0 rfl ?_
          refine V_get (ci := 0) (N := 18) (C := RX1) (T := TX1) (o := 0) (j := 8) X rfl in_X1 (by decide) (hW.at 0 rfl) (by decide) q485 (fv_1 (i := 14) rfl rfl) dX1_line_88 ?_
          refine V_getN (ci := 3) (N := 15) (C := RX4) (T := TX4) (o := 14) (j := 0) X rfl in_X4 (by decide) (hW.at 14 rfl) (by decide) q218 (fv_1 (i := 15) rfl rfl) dX1_line_91 ?_
          refine V_iload_n X dX1_line_94 1 rfl ?_
          refine V_iald X (o := 15) (n := 12) (hW.at 15 rfl) (by decide) dX1_line_95 h (fun v95 h => ?_)
          have hr := Option.some.inj h
          subst hr
          exact V_end_i hX rfl dX1_line_96
        · rw [if_neg hz3] at h
          refine V_tswOut (tgt := 97) X dX1_line_18 (by omega) (by decide) ?_
          refine V_aload_n X dX1_line_97 0 rfl ?_
          refine V_get (ci := 0) (N := 18) (C := RX1) (T := TX1) (o := 0) (j := 8) X rfl in_X1 (by decide) (hW.at 0 rfl) (by decide) q485 (fv_1 (i := 14) rfl rfl) dX1_line_98 ?_
          refine V_getN (ci := 3) (N := 15) (C := RX4) (T := TX4) (o := 14) (j := 1) X rfl in_X4 (by decide) (hW.at 14 rfl) (by decide) q220 (fv_1 (i := 16) rfl rfl) dX1_line_101 ?_
          refine V_iload_n X dX1_line_104 1 rfl ?_
          refine V_iald X (o := 16) (n := 12) (hW.at 16 rfl) (by decide) dX1_line_105 h (fun v105 h => ?_)
          have hr := Option.some.inj h
          subst hr
          exact V_end_i hX rfl dX1_line_106
set_option maxHeartbeats 4000000 in
theorem con_x_wet (K : Nat → Nat) (hW : WFK K) (N : Nat) (sz : Nat) (g : GS) (l1 : Int) (r : ((Nat × GS) ⊕ (Int × GS))) (h : x_wet N K g l1 = some r) : ConX sz yX1_wet cX1_wet 2 (some .int) 211 5033 K (fun b => [.ref (b + 0), vI l1]) g (fun r => ((fun _ => some (vI r.1)), r.2)) r := by
  refine ConX.of RX1 (by decide) rfl (fun b => Nat.le_of_ble_eq_true rfl) (fun x hX => ?_)
  have X := hX.ok
  unfold x_wet at h
  show V x 2 K 0 0 sz g 0 [(0, .ref (xb x + 0)), (1, vI l1)] []
  refine V_aload_n X dX1_wet_0 0 rfl ?_
  refine V_iload_n X dX1_wet_1 1 rfl ?_
  obtain ⟨c2, hc2, h⟩ := bind_some_eq h
  rcases c2 with x2 | y2
  · replace h := thT_l h
    have hr := Option.some.inj h
    subst hr
    exact V_callVT (ci := 0) (N := 18) (T := TX1) (As := [vI l1]) (rest := []) (o := 0) hX (con_x_personOf K hW sz g l1 (.inl x2) hc2) gwX1_personOf_231 hdV_X1_personOf ⟨Nat.le_of_ble_eq_true rfl, Nat.le_of_ble_eq_true rfl⟩ rfl (by decide) (hW.at 0 rfl) rfl rfl (Nat.le_of_ble_eq_true rfl) dX1_wet_2 rfl
  replace h := thT_r h
  refine V_callV1 (ci := 0) (N := 18) (T := TX1) (As := [vI l1]) (rest := []) (s1 := []) (o := 0) X (con_x_personOf K hW sz g l1 (.inr y2) hc2) gwX1_personOf_231 hdV_X1_personOf ⟨Nat.le_of_ble_eq_true rfl, Nat.le_of_ble_eq_true rfl⟩ rfl (by decide) (hW.at 0 rfl) rfl rfl (Nat.le_of_ble_eq_true rfl) ⟨Nat.zero_le _, Nat.zero_le _⟩ dX1_wet_2 rfl rfl ?_
  refine V_aload_n X dX1_wet_5 0 rfl ?_
  obtain ⟨c6, hc6, h⟩ := bind_some_eq h
  refine V_callV (ci := 0) (N := 18) (T := TX1) (As := []) (rest := []) (s1 := [.ref (xb x + 14)]) (o := 0) X (con_x_gone K hW N y2 c6 hc6) gwX1_gone_276 hdV_X1_gone ⟨Nat.le_of_ble_eq_true rfl, Nat.le_of_ble_eq_true rfl⟩ rfl (by decide) (hW.at 0 rfl) rfl rfl (Nat.le_of_ble_eq_true rfl) ⟨Nat.zero_le _, Nat.zero_le _⟩ dX1_wet_6 rfl rfl ?_
  refine V_getN (ci := 3) (N := 15) (C := RX4) (T := TX4) (o := 14) (j := 4) X rfl in_X4 (by decide) (hW.at 14 rfl) (by decide) q224 (fv_1 (i := 19) rfl rfl) dX1_wet_9 ?_
  refine V_iload_n X dX1_wet_12 1 rfl ?_
  refine V_iald X (o := 19) (n := 4) (hW.at 19 rfl) (by decide) dX1_wet_13 h (fun v13 h => ?_)
  have hr := Option.some.inj h
  subst hr
  exact V_end_i hX rfl dX1_wet_14
set_option maxHeartbeats 4000000 in
theorem con_x_idle (K : Nat → Nat) (hW : WFK K) (N : Nat) (sz : Nat) (g : GS) (l1 : Int) (r : ((Nat × GS) ⊕ (Int × GS))) (h : x_idle N K g l1 = some r) : ConX sz yX1_idle cX1_idle 2 (some .int) 211 5033 K (fun b => [.ref (b + 0), vI l1]) g (fun r => ((fun _ => some (vI r.1)), r.2)) r := by
  refine ConX.of RX1 (by decide) rfl (fun b => Nat.le_of_ble_eq_true rfl) (fun x hX => ?_)
  have X := hX.ok
  unfold x_idle at h
  show V x 2 K 0 0 sz g 0 [(0, .ref (xb x + 0)), (1, vI l1)] []
  refine V_aload_n X dX1_idle_0 0 rfl ?_
  refine V_iload_n X dX1_idle_1 1 rfl ?_
  obtain ⟨c2, hc2, h⟩ := bind_some_eq h
  rcases c2 with x2 | y2
  · replace h := thT_l h
    have hr := Option.some.inj h
    subst hr
    exact V_callVT (ci := 0) (N := 18) (T := TX1) (As := [vI l1]) (rest := []) (o := 0) hX (con_x_personOf K hW sz g l1 (.inl x2) hc2) gwX1_personOf_231 hdV_X1_personOf ⟨Nat.le_of_ble_eq_true rfl, Nat.le_of_ble_eq_true rfl⟩ rfl (by decide) (hW.at 0 rfl) rfl rfl (Nat.le_of_ble_eq_true rfl) dX1_idle_2 rfl
  replace h := thT_r h
  refine V_callV1 (ci := 0) (N := 18) (T := TX1) (As := [vI l1]) (rest := []) (s1 := []) (o := 0) X (con_x_personOf K hW sz g l1 (.inr y2) hc2) gwX1_personOf_231 hdV_X1_personOf ⟨Nat.le_of_ble_eq_true rfl, Nat.le_of_ble_eq_true rfl⟩ rfl (by decide) (hW.at 0 rfl) rfl rfl (Nat.le_of_ble_eq_true rfl) ⟨Nat.zero_le _, Nat.zero_le _⟩ dX1_idle_2 rfl rfl ?_
  refine V_aload_n X dX1_idle_5 0 rfl ?_
  obtain ⟨c6, hc6, h⟩ := bind_some_eq h
  refine V_callV (ci := 0) (N := 18) (T := TX1) (As := []) (rest := []) (s1 := [.ref (xb x + 14)]) (o := 0) X (con_x_gone K hW N y2 c6 hc6) gwX1_gone_276 hdV_X1_gone ⟨Nat.le_of_ble_eq_true rfl, Nat.le_of_ble_eq_true rfl⟩ rfl (by decide) (hW.at 0 rfl) rfl rfl (Nat.le_of_ble_eq_true rfl) ⟨Nat.zero_le _, Nat.zero_le _⟩ dX1_idle_6 rfl rfl ?_
  refine V_getN (ci := 3) (N := 15) (C := RX4) (T := TX4) (o := 14) (j := 9) X rfl in_X4 (by decide) (hW.at 14 rfl) (by decide) q232 (fv_0 rfl) dX1_idle_9 ?_
  refine V_aload_n X dX1_idle_12 0 rfl ?_
  refine V_get (ci := 0) (N := 18) (C := RX1) (T := TX1) (o := 0) (j := 8) X rfl in_X1 (by decide) (hW.at 0 rfl) (by decide) q485 (fv_1 (i := 14) rfl rfl) dX1_idle_13 ?_
  refine V_getN (ci := 3) (N := 15) (C := RX4) (T := TX4) (o := 14) (j := 5) X rfl in_X4 (by decide) (hW.at 14 rfl) (by decide) q226 (fv_1 (i := 20) rfl rfl) dX1_idle_16 ?_
  refine V_iload_n X dX1_idle_19 1 rfl ?_
  refine V_iald X (o := 20) (n := 4) (hW.at 20 rfl) (by decide) dX1_idle_20 h (fun v20 h => ?_)
  refine V_isub X dX1_idle_21 ?_
  have hr := Option.some.inj h
  subst hr
  exact V_end_i hX rfl dX1_idle_22
set_option maxHeartbeats 4000000 in
theorem con_x_slack (K : Nat → Nat) (hW : WFK K) (N : Nat) (sz : Nat) (g : GS) (l1 : Int) (r : ((Nat × GS) ⊕ (Int × GS))) (h : x_slack N K g l1 = some r) : ConX sz yX1_slack cX1_slack 2 (some .int) 212 5057 K (fun b => [.ref (b + 0), vI l1]) g (fun r => ((fun _ => some (vI r.1)), r.2)) r := by
  refine ConX.of RX1 (by decide) rfl (fun b => Nat.le_of_ble_eq_true rfl) (fun x hX => ?_)
  have X := hX.ok
  unfold x_slack at h
  show V x 2 K 0 0 sz g 0 [(0, .ref (xb x + 0)), (1, vI l1)] []
  refine V_aload_n X dX1_slack_0 0 rfl ?_
  refine V_iload_n X dX1_slack_1 1 rfl ?_
  obtain ⟨c2, hc2, h⟩ := bind_some_eq h
  rcases c2 with x2 | y2
  · replace h := thT_l h
    have hr := Option.some.inj h
    subst hr
    exact V_callVT (ci := 0) (N := 18) (T := TX1) (As := [vI l1]) (rest := []) (o := 0) hX (con_x_deedOf K hW sz g l1 (.inl x2) hc2) gwX1_deedOf_212 hdV_X1_deedOf ⟨Nat.le_of_ble_eq_true rfl, Nat.le_of_ble_eq_true rfl⟩ rfl (by decide) (hW.at 0 rfl) rfl rfl (Nat.le_of_ble_eq_true rfl) dX1_slack_2 rfl
  replace h := thT_r h
  refine V_callV1 (ci := 0) (N := 18) (T := TX1) (As := [vI l1]) (rest := []) (s1 := []) (o := 0) X (con_x_deedOf K hW sz g l1 (.inr y2) hc2) gwX1_deedOf_212 hdV_X1_deedOf ⟨Nat.le_of_ble_eq_true rfl, Nat.le_of_ble_eq_true rfl⟩ rfl (by decide) (hW.at 0 rfl) rfl rfl (Nat.le_of_ble_eq_true rfl) ⟨Nat.zero_le _, Nat.zero_le _⟩ dX1_slack_2 rfl rfl ?_
  refine V_aload_n X dX1_slack_5 0 rfl ?_
  refine V_iload_n X dX1_slack_6 1 rfl ?_
  obtain ⟨c7, hc7, h⟩ := bind_some_eq h
  refine V_callV (ci := 0) (N := 18) (T := TX1) (As := [vI l1]) (rest := []) (s1 := [vI c7.1]) (o := 0) X (con_x_slackOf K hW N y2 l1 c7 hc7) gwX1_slackOf_308 hdV_X1_slackOf ⟨Nat.le_of_ble_eq_true rfl, Nat.le_of_ble_eq_true rfl⟩ rfl (by decide) (hW.at 0 rfl) rfl rfl (Nat.le_of_ble_eq_true rfl) ⟨Nat.zero_le _, Nat.zero_le _⟩ dX1_slack_7 rfl rfl ?_
  have hr := Option.some.inj h
  subst hr
  exact V_end_i hX rfl dX1_slack_10
set_option maxHeartbeats 4000000 in
theorem con_x_ahead (K : Nat → Nat) (hW : WFK K) (N : Nat) (sz : Nat) (g : GS) (l1 : Int) (r : ((Nat × GS) ⊕ (Int × GS))) (h : x_ahead N K g l1 = some r) : ConX sz yX1_ahead cX1_ahead 2 (some .int) 9 203 K (fun b => [.ref (b + 0), vI l1]) g (fun r => ((fun _ => some (vI r.1)), r.2)) r := by
  refine ConX.of RX1 (by decide) rfl (fun b => Nat.le_of_ble_eq_true rfl) (fun x hX => ?_)
  have X := hX.ok
  unfold x_ahead at h
  show V x 2 K 0 0 sz g 0 [(0, .ref (xb x + 0)), (1, vI l1)] []
  refine V_aload_n X dX1_ahead_0 0 rfl ?_
  refine V_iload_n X dX1_ahead_1 1 rfl ?_
  obtain ⟨c2, hc2, h⟩ := bind_some_eq h
  rcases c2 with x2 | y2
  · replace h := thT_l h
    have hr := Option.some.inj h
    subst hr
    exact V_callVT (ci := 0) (N := 18) (T := TX1) (As := [vI l1]) (rest := []) (o := 0) hX (con_x_deedOf K hW sz g l1 (.inl x2) hc2) gwX1_deedOf_212 hdV_X1_deedOf ⟨Nat.le_of_ble_eq_true rfl, Nat.le_of_ble_eq_true rfl⟩ rfl (by decide) (hW.at 0 rfl) rfl rfl (Nat.le_of_ble_eq_true rfl) dX1_ahead_2 rfl
  replace h := thT_r h
  refine V_callV1 (ci := 0) (N := 18) (T := TX1) (As := [vI l1]) (rest := []) (s1 := []) (o := 0) X (con_x_deedOf K hW sz g l1 (.inr y2) hc2) gwX1_deedOf_212 hdV_X1_deedOf ⟨Nat.le_of_ble_eq_true rfl, Nat.le_of_ble_eq_true rfl⟩ rfl (by decide) (hW.at 0 rfl) rfl rfl (Nat.le_of_ble_eq_true rfl) ⟨Nat.zero_le _, Nat.zero_le _⟩ dX1_ahead_2 rfl rfl ?_
  refine V_aload_n X dX1_ahead_5 0 rfl ?_
  obtain ⟨i6, hvi6, hki6, h⟩ := rdR_some h
  refine V_get (ci := 0) (N := 18) (C := RX1) (T := TX1) (o := 0) (j := 12) X rfl in_X1 (by decide) (hW.at 0 rfl) (by decide) q489 (fv_3i rfl hvi6) dX1_ahead_6 ?_
  refine V_iload_n X dX1_ahead_9 1 rfl ?_
  obtain ⟨c10, hc10, h⟩ := bind_some_eq h
  refine V_callV (ci := 8) (N := 24) (T := TX9) (As := [vI l1]) (rest := []) (s1 := [vI c10]) (o := i6) X (con_xRoad_ahead K hW N i6 hki6 y2 l1 c10 hc10) gwX1_ahead_311 hdV_X9_ahead ⟨Nat.le_of_ble_eq_true rfl, Nat.le_of_ble_eq_true rfl⟩ rfl (by decide) hki6 rfl rfl (Nat.le_of_ble_eq_true rfl) ⟨Nat.zero_le _, Nat.zero_le _⟩ dX1_ahead_10 rfl rfl ?_
  have hr := Option.some.inj h
  subst hr
  exact V_end_i hX rfl dX1_ahead_13
set_option maxHeartbeats 4000000 in
theorem con_x_chain (K : Nat → Nat) (hW : WFK K) (N : Nat) (sz : Nat) (g : GS) (l1 : Int) (r : ((Nat × GS) ⊕ (Int × GS))) (h : x_chain N K g l1 = some r) : ConX sz yX1_chain cX1_chain 2 (some .int) 49 1623 K (fun b => [.ref (b + 0), vI l1]) g (fun r => ((fun _ => some (vI r.1)), r.2)) r := by
  refine ConX.of RX1 (by decide) rfl (fun b => Nat.le_of_ble_eq_true rfl) (fun x hX => ?_)
  have X := hX.ok
  unfold x_chain at h
  show V x 2 K 0 0 sz g 0 [(0, .ref (xb x + 0)), (1, vI l1)] []
  refine V_aload_n X dX1_chain_0 0 rfl ?_
  refine V_iload_n X dX1_chain_1 1 rfl ?_
  obtain ⟨c2, hc2, h⟩ := bind_some_eq h
  rcases c2 with x2 | y2
  · replace h := thT_l h
    have hr := Option.some.inj h
    subst hr
    exact V_callVT (ci := 0) (N := 18) (T := TX1) (As := [vI l1]) (rest := []) (o := 0) hX (con_x_deedOf K hW sz g l1 (.inl x2) hc2) gwX1_deedOf_212 hdV_X1_deedOf ⟨Nat.le_of_ble_eq_true rfl, Nat.le_of_ble_eq_true rfl⟩ rfl (by decide) (hW.at 0 rfl) rfl rfl (Nat.le_of_ble_eq_true rfl) dX1_chain_2 rfl
  replace h := thT_r h
  refine V_callV1 (ci := 0) (N := 18) (T := TX1) (As := [vI l1]) (rest := []) (s1 := []) (o := 0) X (con_x_deedOf K hW sz g l1 (.inr y2) hc2) gwX1_deedOf_212 hdV_X1_deedOf ⟨Nat.le_of_ble_eq_true rfl, Nat.le_of_ble_eq_true rfl⟩ rfl (by decide) (hW.at 0 rfl) rfl rfl (Nat.le_of_ble_eq_true rfl) ⟨Nat.zero_le _, Nat.zero_le _⟩ dX1_chain_2 rfl rfl ?_
  refine V_aload_n X dX1_chain_5 0 rfl ?_
  obtain ⟨i6, hvi6, hki6, h⟩ := rdR_some h
  refine V_get (ci := 0) (N := 18) (C := RX1) (T := TX1) (o := 0) (j := 12) X rfl in_X1 (by decide) (hW.at 0 rfl) (by decide) q489 (fv_3i rfl hvi6) dX1_chain_6 ?_
  refine V_iload_n X dX1_chain_9 1 rfl ?_
  obtain ⟨c10, hc10, h⟩ := bind_some_eq h
  refine V_callV (ci := 8) (N := 24) (T := TX9) (As := [vI l1]) (rest := []) (s1 := [vI c10]) (o := i6) X (con_xRoad_chain K hW N i6 hki6 y2 l1 c10 hc10) gwX1_chain_314 hdV_X9_chain ⟨Nat.le_of_ble_eq_true rfl, Nat.le_of_ble_eq_true rfl⟩ rfl (by decide) hki6 rfl rfl (Nat.le_of_ble_eq_true rfl) ⟨Nat.zero_le _, Nat.zero_le _⟩ dX1_chain_10 rfl rfl ?_
  have hr := Option.some.inj h
  subst hr
  exact V_end_i hX rfl dX1_chain_13
set_option maxHeartbeats 4000000 in
theorem con_x_soonest (K : Nat → Nat) (hW : WFK K) (N : Nat) (sz : Nat) (g : GS) (l1 : Int) (r : ((Nat × GS) ⊕ (Int × GS))) (h : x_soonest N K g l1 = some r) : ConX sz yX1_soonest cX1_soonest 2 (some .int) 1682 40295 K (fun b => [.ref (b + 0), vI l1]) g (fun r => ((fun _ => some (vI r.1)), r.2)) r := by
  refine ConX.of RX1 (by decide) rfl (fun b => Nat.le_of_ble_eq_true rfl) (fun x hX => ?_)
  have X := hX.ok
  unfold x_soonest at h
  show V x 2 K 0 0 sz g 0 [(0, .ref (xb x + 0)), (1, vI l1)] []
  refine V_aload_n X dX1_soonest_0 0 rfl ?_
  refine V_iload_n X dX1_soonest_1 1 rfl ?_
  refine V_iconst X dX1_soonest_2 ?_
  refine V_iconst X dX1_soonest_3 ?_
  obtain ⟨c4, hc4, h⟩ := bind_some_eq h
  rcases c4 with x4 | y4
  · replace h := thT_l h
    have hr := Option.some.inj h
    subst hr
    exact V_callVT (ci := 0) (N := 18) (T := TX1) (As := [vI l1, vI 0, vI 1]) (rest := []) (o := 0) hX (con_x_within K hW sz g l1 0 1 (.inl x4) hc4) gwX1_within_125 hdV_X1_within ⟨Nat.le_of_ble_eq_true rfl, Nat.le_of_ble_eq_true rfl⟩ rfl (by decide) (hW.at 0 rfl) rfl rfl (Nat.le_of_ble_eq_true rfl) dX1_soonest_4 rfl
  replace h := thT_r h
  refine V_callV1 (ci := 0) (N := 18) (T := TX1) (As := [vI l1, vI 0, vI 1]) (rest := []) (s1 := []) (o := 0) X (con_x_within K hW sz g l1 0 1 (.inr y4) hc4) gwX1_within_125 hdV_X1_within ⟨Nat.le_of_ble_eq_true rfl, Nat.le_of_ble_eq_true rfl⟩ rfl (by decide) (hW.at 0 rfl) rfl rfl (Nat.le_of_ble_eq_true rfl) ⟨Nat.zero_le _, Nat.zero_le _⟩ dX1_soonest_4 rfl rfl ?_
  refine V_aload_n X dX1_soonest_7 0 rfl ?_
  obtain ⟨c8, hc8, h⟩ := bind_some_eq h
  rcases c8 with x8 | y8
  · replace h := thT_l h
    have hr := Option.some.inj h
    subst hr
    exact V_callVT (ci := 0) (N := 18) (T := TX1) (As := []) (rest := []) (o := 0) hX (con_x_few K hW sz y4 (.inl x8) hc8) gwX1_few_317 hdV_X1_few ⟨Nat.le_of_ble_eq_true rfl, Nat.le_of_ble_eq_true rfl⟩ rfl (by decide) (hW.at 0 rfl) rfl rfl (Nat.le_of_ble_eq_true rfl) dX1_soonest_8 rfl
  replace h := thT_r h
  refine V_callV1 (ci := 0) (N := 18) (T := TX1) (As := []) (rest := []) (s1 := []) (o := 0) X (con_x_few K hW sz y4 (.inr y8) hc8) gwX1_few_317 hdV_X1_few ⟨Nat.le_of_ble_eq_true rfl, Nat.le_of_ble_eq_true rfl⟩ rfl (by decide) (hW.at 0 rfl) rfl rfl (Nat.le_of_ble_eq_true rfl) ⟨Nat.zero_le _, Nat.zero_le _⟩ dX1_soonest_8 rfl rfl ?_
  refine V_aload_n X dX1_soonest_11 0 rfl ?_
  refine V_get (ci := 0) (N := 18) (C := RX1) (T := TX1) (o := 0) (j := 9) X rfl in_X1 (by decide) (hW.at 0 rfl) (by decide) q486 (fv_1 (i := 22) rfl rfl) dX1_soonest_12 ?_
  refine V_aload_n X dX1_soonest_15 0 rfl ?_
  obtain ⟨i16, hvi16, hki16, h⟩ := rdR_some h
  refine V_get (ci := 0) (N := 18) (C := RX1) (T := TX1) (o := 0) (j := 12) X rfl in_X1 (by decide) (hW.at 0 rfl) (by decide) q489 (fv_3i rfl hvi16) dX1_soonest_16 ?_
  obtain ⟨c19, hc19, h⟩ := bind_some_eq h
  refine V_callV (ci := 5) (N := 7) (T := TX6) (As := [.ref (xb x + i16)]) (rest := []) (s1 := []) (o := 22) X (con_xSoonest_finds K hW N i16 hki16 y8 c19 hc19) gwX1_finds_320 hdV_X6_finds ⟨Nat.le_of_ble_eq_true rfl, Nat.le_of_ble_eq_true rfl⟩ rfl (by decide) (hW.at 22 rfl) rfl rfl (Nat.le_of_ble_eq_true rfl) ⟨Nat.zero_le _, Nat.zero_le _⟩ dX1_soonest_19 rfl rfl ?_
  refine V_iload_n X dX1_soonest_22 1 rfl ?_
  refine V_if_eq (tgt := 37) X dX1_soonest_23 (by decide) h (fun h => ?_) (fun h => ?_)
  · refine V_aload_n X dX1_soonest_37 0 rfl ?_
    refine V_get (ci := 0) (N := 18) (C := RX1) (T := TX1) (o := 0) (j := 9) X rfl in_X1 (by decide) (hW.at 0 rfl) (by decide) q486 (fv_1 (i := 22) rfl rfl) dX1_soonest_38 ?_
    refine V_getN (ci := 5) (N := 7) (C := RX6) (T := TX6) (o := 22) (j := 5) X rfl in_X6 (by decide) (hW.at 22 rfl) (by decide) q287 (fv_0 rfl) dX1_soonest_41 ?_
    refine V_goto (tgt := 54) X dX1_soonest_44 (by decide) ?_
    have hr := Option.some.inj h
    subst hr
    exact V_end_i hX rfl dX1_soonest_54
  · refine V_aload_n X dX1_soonest_26 0 rfl ?_
    refine V_get (ci := 0) (N := 18) (C := RX1) (T := TX1) (o := 0) (j := 9) X rfl in_X1 (by decide) (hW.at 0 rfl) (by decide) q486 (fv_1 (i := 22) rfl rfl) dX1_soonest_27 ?_
    refine V_getN (ci := 5) (N := 7) (C := RX6) (T := TX6) (o := 22) (j := 5) X rfl in_X6 (by decide) (hW.at 22 rfl) (by decide) q287 (fv_0 rfl) dX1_soonest_30 ?_
    refine V_iconst X dX1_soonest_33 ?_
    refine V_icmp_ne (tgt := 47) X dX1_soonest_34 (by decide) h (fun h => ?_) (fun h => ?_)
    · refine V_aload_n X dX1_soonest_47 0 rfl ?_
      refine V_get (ci := 0) (N := 18) (C := RX1) (T := TX1) (o := 0) (j := 9) X rfl in_X1 (by decide) (hW.at 0 rfl) (by decide) q486 (fv_1 (i := 22) rfl rfl) dX1_soonest_48 ?_
      refine V_getN (ci := 5) (N := 7) (C := RX6) (T := TX6) (o := 22) (j := 6) X rfl in_X6 (by decide) (hW.at 22 rfl) (by decide) q289 (fv_0 rfl) dX1_soonest_51 ?_
      have hr := Option.some.inj h
      subst hr
      exact V_end_i hX rfl dX1_soonest_54
    · refine V_aload_n X dX1_soonest_37 0 rfl ?_
      refine V_get (ci := 0) (N := 18) (C := RX1) (T := TX1) (o := 0) (j := 9) X rfl in_X1 (by decide) (hW.at 0 rfl) (by decide) q486 (fv_1 (i := 22) rfl rfl) dX1_soonest_38 ?_
      refine V_getN (ci := 5) (N := 7) (C := RX6) (T := TX6) (o := 22) (j := 5) X rfl in_X6 (by decide) (hW.at 22 rfl) (by decide) q287 (fv_0 rfl) dX1_soonest_41 ?_
      refine V_goto (tgt := 54) X dX1_soonest_44 (by decide) ?_
      have hr := Option.some.inj h
      subst hr
      exact V_end_i hX rfl dX1_soonest_54
set_option maxHeartbeats 4000000 in
theorem con_x_first (K : Nat → Nat) (hW : WFK K) (N : Nat) (sz : Nat) (g : GS) (l1 : Int) (r : ((Nat × GS) ⊕ (Int × GS))) (h : x_first N K g l1 = some r) : ConX sz yX1_first cX1_first 2 (some .int) 1682 40295 K (fun b => [.ref (b + 0), vI l1]) g (fun r => ((fun _ => some (vI r.1)), r.2)) r := by
  refine ConX.of RX1 (by decide) rfl (fun b => Nat.le_of_ble_eq_true rfl) (fun x hX => ?_)
  have X := hX.ok
  unfold x_first at h
  show V x 2 K 0 0 sz g 0 [(0, .ref (xb x + 0)), (1, vI l1)] []
  refine V_aload_n X dX1_first_0 0 rfl ?_
  refine V_iload_n X dX1_first_1 1 rfl ?_
  refine V_iconst X dX1_first_2 ?_
  refine V_aload_n X dX1_first_3 0 rfl ?_
  obtain ⟨i4, hvi4, hki4, h⟩ := rdR_some h
  refine V_get (ci := 0) (N := 18) (C := RX1) (T := TX1) (o := 0) (j := 12) X rfl in_X1 (by decide) (hW.at 0 rfl) (by decide) q489 (fv_3i rfl hvi4) dX1_first_4 ?_
  refine V_getN (ci := 8) (N := 24) (C := RX9) (T := TX9) (o := i4) (j := 14) X rfl in_X9 (by decide) hki4 (by decide) q404 (fv_0 rfl) dX1_first_7 ?_
  refine V_iconst X dX1_first_10 ?_
  refine V_isub X dX1_first_11 ?_
  obtain ⟨c12, hc12, h⟩ := bind_some_eq h
  rcases c12 with x12 | y12
  · replace h := thT_l h
    have hr := Option.some.inj h
    subst hr
    exact V_callVT (ci := 0) (N := 18) (T := TX1) (As := [vI l1, vI 0, vI ((gI g 814 i4) - 1)]) (rest := []) (o := 0) hX (con_x_within K hW sz g l1 0 ((gI g 814 i4) - 1) (.inl x12) hc12) gwX1_within_125 hdV_X1_within ⟨Nat.le_of_ble_eq_true rfl, Nat.le_of_ble_eq_true rfl⟩ rfl (by decide) (hW.at 0 rfl) rfl rfl (Nat.le_of_ble_eq_true rfl) dX1_first_12 rfl
  replace h := thT_r h
  refine V_callV1 (ci := 0) (N := 18) (T := TX1) (As := [vI l1, vI 0, vI ((gI g 814 i4) - 1)]) (rest := []) (s1 := []) (o := 0) X (con_x_within K hW sz g l1 0 ((gI g 814 i4) - 1) (.inr y12) hc12) gwX1_within_125 hdV_X1_within ⟨Nat.le_of_ble_eq_true rfl, Nat.le_of_ble_eq_true rfl⟩ rfl (by decide) (hW.at 0 rfl) rfl rfl (Nat.le_of_ble_eq_true rfl) ⟨Nat.zero_le _, Nat.zero_le _⟩ dX1_first_12 rfl rfl ?_
  refine V_aload_n X dX1_first_15 0 rfl ?_
  obtain ⟨c16, hc16, h⟩ := bind_some_eq h
  rcases c16 with x16 | y16
  · replace h := thT_l h
    have hr := Option.some.inj h
    subst hr
    exact V_callVT (ci := 0) (N := 18) (T := TX1) (As := []) (rest := []) (o := 0) hX (con_x_few K hW sz y12 (.inl x16) hc16) gwX1_few_317 hdV_X1_few ⟨Nat.le_of_ble_eq_true rfl, Nat.le_of_ble_eq_true rfl⟩ rfl (by decide) (hW.at 0 rfl) rfl rfl (Nat.le_of_ble_eq_true rfl) dX1_first_16 rfl
  replace h := thT_r h
  refine V_callV1 (ci := 0) (N := 18) (T := TX1) (As := []) (rest := []) (s1 := []) (o := 0) X (con_x_few K hW sz y12 (.inr y16) hc16) gwX1_few_317 hdV_X1_few ⟨Nat.le_of_ble_eq_true rfl, Nat.le_of_ble_eq_true rfl⟩ rfl (by decide) (hW.at 0 rfl) rfl rfl (Nat.le_of_ble_eq_true rfl) ⟨Nat.zero_le _, Nat.zero_le _⟩ dX1_first_16 rfl rfl ?_
  refine V_aload_n X dX1_first_19 0 rfl ?_
  refine V_get (ci := 0) (N := 18) (C := RX1) (T := TX1) (o := 0) (j := 9) X rfl in_X1 (by decide) (hW.at 0 rfl) (by decide) q486 (fv_1 (i := 22) rfl rfl) dX1_first_20 ?_
  refine V_aload_n X dX1_first_23 0 rfl ?_
  obtain ⟨i24, hvi24, hki24, h⟩ := rdR_some h
  refine V_get (ci := 0) (N := 18) (C := RX1) (T := TX1) (o := 0) (j := 12) X rfl in_X1 (by decide) (hW.at 0 rfl) (by decide) q489 (fv_3i rfl hvi24) dX1_first_24 ?_
  obtain ⟨c27, hc27, h⟩ := bind_some_eq h
  refine V_callV (ci := 5) (N := 7) (T := TX6) (As := [.ref (xb x + i24)]) (rest := []) (s1 := []) (o := 22) X (con_xSoonest_finds K hW N i24 hki24 y16 c27 hc27) gwX1_finds_320 hdV_X6_finds ⟨Nat.le_of_ble_eq_true rfl, Nat.le_of_ble_eq_true rfl⟩ rfl (by decide) (hW.at 22 rfl) rfl rfl (Nat.le_of_ble_eq_true rfl) ⟨Nat.zero_le _, Nat.zero_le _⟩ dX1_first_27 rfl rfl ?_
  refine V_aload_n X dX1_first_30 0 rfl ?_
  refine V_get (ci := 0) (N := 18) (C := RX1) (T := TX1) (o := 0) (j := 9) X rfl in_X1 (by decide) (hW.at 0 rfl) (by decide) q486 (fv_1 (i := 22) rfl rfl) dX1_first_31 ?_
  refine V_getN (ci := 5) (N := 7) (C := RX6) (T := TX6) (o := 22) (j := 5) X rfl in_X6 (by decide) (hW.at 22 rfl) (by decide) q287 (fv_0 rfl) dX1_first_34 ?_
  refine V_iconst X dX1_first_37 ?_
  refine V_icmp_ne (tgt := 45) X dX1_first_38 (by decide) h (fun h => ?_) (fun h => ?_)
  · refine V_bipush X dX1_first_45 (by decide) ?_
    refine V_aload_n X dX1_first_47 0 rfl ?_
    refine V_get (ci := 0) (N := 18) (C := RX1) (T := TX1) (o := 0) (j := 9) X rfl in_X1 (by decide) (hW.at 0 rfl) (by decide) q486 (fv_1 (i := 22) rfl rfl) dX1_first_48 ?_
    refine V_getN (ci := 5) (N := 7) (C := RX6) (T := TX6) (o := 22) (j := 3) X rfl in_X6 (by decide) (hW.at 22 rfl) (by decide) q283 (fv_1 (i := 26) rfl rfl) dX1_first_51 ?_
    refine V_iload_n X dX1_first_54 1 rfl ?_
    refine V_iald X (o := 26) (n := 5) (hW.at 26 rfl) (by decide) dX1_first_55 h (fun v55 h => ?_)
    refine V_imul X dX1_first_56 ?_
    refine V_aload_n X dX1_first_57 0 rfl ?_
    refine V_get (ci := 0) (N := 18) (C := RX1) (T := TX1) (o := 0) (j := 9) X rfl in_X1 (by decide) (hW.at 0 rfl) (by decide) q486 (fv_1 (i := 22) rfl rfl) dX1_first_58 ?_
    refine V_getN (ci := 5) (N := 7) (C := RX6) (T := TX6) (o := 22) (j := 4) X rfl in_X6 (by decide) (hW.at 22 rfl) (by decide) q285 (fv_1 (i := 27) rfl rfl) dX1_first_61 ?_
    refine V_iload_n X dX1_first_64 1 rfl ?_
    refine V_iald X (o := 27) (n := 5) (hW.at 27 rfl) (by decide) dX1_first_65 h (fun v65 h => ?_)
    refine V_iadd X dX1_first_66 ?_
    have hr := Option.some.inj h
    subst hr
    exact V_end_i hX rfl dX1_first_67
  · refine V_iconst X dX1_first_41 ?_
    refine V_goto (tgt := 67) X dX1_first_42 (by decide) ?_
    have hr := Option.some.inj h
    subst hr
    exact V_end_i hX rfl dX1_first_67
set_option maxHeartbeats 4000000 in
theorem con_x_jack (K : Nat → Nat) (hW : WFK K) (sz : Nat) (g : GS) (l1 : Int) (l2 : Int) (r : ((Nat × GS) ⊕ GS)) (h : x_jack g l1 l2 = some r) : ConX sz yX1_jack cX1_jack 3 none 8 183 K (fun b => [.ref (b + 0), vI l1, vI l2]) g (fun r => ((fun _ => none), r)) r := by
  refine ConX.of RX1 (by decide) rfl (fun b => Nat.le_of_ble_eq_true rfl) (fun x hX => ?_)
  have X := hX.ok
  unfold x_jack at h
  show V x 3 K 0 0 sz g 0 [(0, .ref (xb x + 0)), (1, vI l1), (2, vI l2)] []
  refine V_aload_n X dX1_jack_0 0 rfl ?_
  refine V_iload_n X dX1_jack_1 1 rfl ?_
  refine V_iconst X dX1_jack_2 ?_
  refine V_bipush X dX1_jack_3 (by decide) ?_
  obtain ⟨c5, hc5, h⟩ := bind_some_eq h
  rcases c5 with x5 | y5
  · replace h := thT_l h
    have hr := Option.some.inj h
    subst hr
    exact V_callVT (ci := 0) (N := 18) (T := TX1) (As := [vI l1, vI 0, vI 59]) (rest := []) (o := 0) hX (con_x_within K hW sz g l1 0 59 (.inl x5) hc5) gwX1_within_125 hdV_X1_within ⟨Nat.le_of_ble_eq_true rfl, Nat.le_of_ble_eq_true rfl⟩ rfl (by decide) (hW.at 0 rfl) rfl rfl (Nat.le_of_ble_eq_true rfl) dX1_jack_5 rfl
  replace h := thT_r h
  refine V_callV1 (ci := 0) (N := 18) (T := TX1) (As := [vI l1, vI 0, vI 59]) (rest := []) (s1 := []) (o := 0) X (con_x_within K hW sz g l1 0 59 (.inr y5) hc5) gwX1_within_125 hdV_X1_within ⟨Nat.le_of_ble_eq_true rfl, Nat.le_of_ble_eq_true rfl⟩ rfl (by decide) (hW.at 0 rfl) rfl rfl (Nat.le_of_ble_eq_true rfl) ⟨Nat.zero_le _, Nat.zero_le _⟩ dX1_jack_5 rfl rfl ?_
  refine V_aload_n X dX1_jack_8 0 rfl ?_
  refine V_iload_n X dX1_jack_9 2 rfl ?_
  refine V_iconst X dX1_jack_10 ?_
  refine V_sipush X dX1_jack_11 (by decide) ?_
  obtain ⟨c14, hc14, h⟩ := bind_some_eq h
  rcases c14 with x14 | y14
  · replace h := thT_l h
    have hr := Option.some.inj h
    subst hr
    exact V_callVT (ci := 0) (N := 18) (T := TX1) (As := [vI l2, vI 0, vI 240]) (rest := []) (o := 0) hX (con_x_within K hW sz y5 l2 0 240 (.inl x14) hc14) gwX1_within_125 hdV_X1_within ⟨Nat.le_of_ble_eq_true rfl, Nat.le_of_ble_eq_true rfl⟩ rfl (by decide) (hW.at 0 rfl) rfl rfl (Nat.le_of_ble_eq_true rfl) dX1_jack_14 rfl
  replace h := thT_r h
  refine V_callV1 (ci := 0) (N := 18) (T := TX1) (As := [vI l2, vI 0, vI 240]) (rest := []) (s1 := []) (o := 0) X (con_x_within K hW sz y5 l2 0 240 (.inr y14) hc14) gwX1_within_125 hdV_X1_within ⟨Nat.le_of_ble_eq_true rfl, Nat.le_of_ble_eq_true rfl⟩ rfl (by decide) (hW.at 0 rfl) rfl rfl (Nat.le_of_ble_eq_true rfl) ⟨Nat.zero_le _, Nat.zero_le _⟩ dX1_jack_14 rfl rfl ?_
  have hr := Option.some.inj h
  subst hr
  exact V_end_v hX rfl dX1_jack_17
set_option maxHeartbeats 4000000 in
theorem con_x_sinks (K : Nat → Nat) (hW : WFK K) (N : Nat) (sz : Nat) (g : GS) (l1 : Int) (l2 : Int) (l3 : Int) (r : ((Nat × GS) ⊕ (Int × GS))) (h : x_sinks N K g l1 l2 l3 = some r) : ConX sz yX1_sinks cX1_sinks 4 (some .int) 9 205 K (fun b => [.ref (b + 0), vI l1, vI l2, vI l3]) g (fun r => ((fun _ => some (vI r.1)), r.2)) r := by
  refine ConX.of RX1 (by decide) rfl (fun b => Nat.le_of_ble_eq_true rfl) (fun x hX => ?_)
  have X := hX.ok
  unfold x_sinks at h
  show V x 4 K 0 0 sz g 0 [(0, .ref (xb x + 0)), (1, vI l1), (2, vI l2), (3, vI l3)] []
  refine V_aload_n X dX1_sinks_0 0 rfl ?_
  refine V_iload_n X dX1_sinks_1 1 rfl ?_
  refine V_iload_n X dX1_sinks_2 3 rfl ?_
  obtain ⟨c3, hc3, h⟩ := bind_some_eq h
  rcases c3 with x3 | y3
  · replace h := thT_l h
    have hr := Option.some.inj h
    subst hr
    exact V_callVT (ci := 0) (N := 18) (T := TX1) (As := [vI l1, vI l3]) (rest := []) (o := 0) hX (con_x_jack K hW sz g l1 l3 (.inl x3) hc3) gwX1_jack_333 hdV_X1_jack ⟨Nat.le_of_ble_eq_true rfl, Nat.le_of_ble_eq_true rfl⟩ rfl (by decide) (hW.at 0 rfl) rfl rfl (Nat.le_of_ble_eq_true rfl) dX1_sinks_3 rfl
  replace h := thT_r h
  refine V_callV1 (ci := 0) (N := 18) (T := TX1) (As := [vI l1, vI l3]) (rest := []) (s1 := []) (o := 0) X (con_x_jack K hW sz g l1 l3 (.inr y3) hc3) gwX1_jack_333 hdV_X1_jack ⟨Nat.le_of_ble_eq_true rfl, Nat.le_of_ble_eq_true rfl⟩ rfl (by decide) (hW.at 0 rfl) rfl rfl (Nat.le_of_ble_eq_true rfl) ⟨Nat.zero_le _, Nat.zero_le _⟩ dX1_sinks_3 rfl rfl ?_
  refine V_aload_n X dX1_sinks_6 0 rfl ?_
  refine V_iload_n X dX1_sinks_7 2 rfl ?_
  refine V_iconst X dX1_sinks_8 ?_
  refine V_iconst X dX1_sinks_9 ?_
  refine V_aload_n X dX1_sinks_10 0 rfl ?_
  obtain ⟨i11, hvi11, hki11, h⟩ := rdR_some h
  refine V_get (ci := 0) (N := 18) (C := RX1) (T := TX1) (o := 0) (j := 12) X rfl in_X1 (by decide) (hW.at 0 rfl) (by decide) q489 (fv_3i rfl hvi11) dX1_sinks_11 ?_
  refine V_getN (ci := 8) (N := 24) (C := RX9) (T := TX9) (o := i11) (j := 16) X rfl in_X9 (by decide) hki11 (by decide) q409 (fv_0 rfl) dX1_sinks_14 ?_
  refine V_ishl X dX1_sinks_17 ?_
  refine V_iconst X dX1_sinks_18 ?_
  refine V_isub X dX1_sinks_19 ?_
  obtain ⟨c20, hc20, h⟩ := bind_some_eq h
  rcases c20 with x20 | y20
  · replace h := thT_l h
    have hr := Option.some.inj h
    subst hr
    exact V_callVT (ci := 0) (N := 18) (T := TX1) (As := [vI l2, vI 0, vI ((i_shl 1 (gI y3 816 i11)) - 1)]) (rest := []) (o := 0) hX (con_x_within K hW sz y3 l2 0 ((i_shl 1 (gI y3 816 i11)) - 1) (.inl x20) hc20) gwX1_within_125 hdV_X1_within ⟨Nat.le_of_ble_eq_true rfl, Nat.le_of_ble_eq_true rfl⟩ rfl (by decide) (hW.at 0 rfl) rfl rfl (Nat.le_of_ble_eq_true rfl) dX1_sinks_20 rfl
  replace h := thT_r h
  refine V_callV1 (ci := 0) (N := 18) (T := TX1) (As := [vI l2, vI 0, vI ((i_shl 1 (gI y3 816 i11)) - 1)]) (rest := []) (s1 := []) (o := 0) X (con_x_within K hW sz y3 l2 0 ((i_shl 1 (gI y3 816 i11)) - 1) (.inr y20) hc20) gwX1_within_125 hdV_X1_within ⟨Nat.le_of_ble_eq_true rfl, Nat.le_of_ble_eq_true rfl⟩ rfl (by decide) (hW.at 0 rfl) rfl rfl (Nat.le_of_ble_eq_true rfl) ⟨Nat.zero_le _, Nat.zero_le _⟩ dX1_sinks_20 rfl rfl ?_
  refine V_aload_n X dX1_sinks_23 0 rfl ?_
  obtain ⟨i24, hvi24, hki24, h⟩ := rdR_some h
  refine V_get (ci := 0) (N := 18) (C := RX1) (T := TX1) (o := 0) (j := 12) X rfl in_X1 (by decide) (hW.at 0 rfl) (by decide) q489 (fv_3i rfl hvi24) dX1_sinks_24 ?_
  refine V_iload_n X dX1_sinks_27 1 rfl ?_
  refine V_iload_n X dX1_sinks_28 2 rfl ?_
  refine V_iload_n X dX1_sinks_29 3 rfl ?_
  obtain ⟨c30, hc30, h⟩ := bind_some_eq h
  refine V_callV (ci := 8) (N := 24) (T := TX9) (As := [vI l1, vI l2, vI l3]) (rest := []) (s1 := [vI c30]) (o := i24) X (con_xRoad_sinks K hW N i24 hki24 y20 l1 l2 l3 c30 hc30) gwX1_sinks_336 hdV_X9_sinks ⟨Nat.le_of_ble_eq_true rfl, Nat.le_of_ble_eq_true rfl⟩ rfl (by decide) hki24 rfl rfl (Nat.le_of_ble_eq_true rfl) ⟨Nat.zero_le _, Nat.zero_le _⟩ dX1_sinks_30 rfl rfl ?_
  have hr := Option.some.inj h
  subst hr
  exact V_end_i hX rfl dX1_sinks_33
set_option maxHeartbeats 4000000 in
theorem con_x_under (K : Nat → Nat) (hW : WFK K) (N : Nat) (sz : Nat) (g : GS) (l1 : Int) (l2 : Int) (l3 : Int) (r : ((Nat × GS) ⊕ (Int × GS))) (h : x_under N K g l1 l2 l3 = some r) : ConX sz yX1_under cX1_under 6 (some .int) 9 205 K (fun b => [.ref (b + 0), vI l1, vI l2, vI l3]) g (fun r => ((fun _ => some (vI r.1)), r.2)) r := by
  refine ConX.of RX1 (by decide) rfl (fun b => Nat.le_of_ble_eq_true rfl) (fun x hX => ?_)
  have X := hX.ok
  have LL21 : ∀ (g : GS) (l1 : Int) (l2 : Int) (l3 : Int) (n : Nat) (s : (Int × Int)) (e : ((Nat × GS) ⊕ (Int × GS))), loopN (fun s => x_under_b21 N K g l1 l2 l3 s.1 s.2) n s = some e → (e = r) → V x 6 K 0 0 sz g 21 [(0, .ref (xb x + 0)), (1, vI l1), (2, vI l2), (3, vI l3), (4, vI s.1), (5, vI s.2)] [] := by
    intro g l1 l2 l3 n s e
    refine loop_walk (P := fun s => V x 6 K 0 0 sz g 21 [(0, .ref (xb x + 0)), (1, vI l1), (2, vI l2), (3, vI l3), (4, vI s.1), (5, vI s.2)] []) (E := fun e => e = r) ?_ n s e
    clear e s n
    rintro ⟨l4, l5⟩ q21 h hc21 he21
    replace h : x_under_b21 N K g l1 l2 l3 l4 l5 = some q21 := h
    have J72 : ∀ (l5 : Int), x_under_j72 N K g l1 l2 l3 l5 = some q21 → V x 6 K 0 0 sz g 72 [(0, .ref (xb x + 0)), (1, vI l1), (2, vI l2), (3, vI l3), (5, vI l5)] [] := by
      intro l5 h
      unfold x_under_j72 at h
      refine V_iload X dX1_under_72 4 rfl ?_
      refine V_istore X dX1_under_74 (by decide) (L' := [(4, vI l5), (0, .ref (xb x + 0)), (1, vI l1), (2, vI l2), (3, vI l3), (5, vI l5)]) rfl ?_
      refine V_iinc X dX1_under_76 5 rfl (by decide) (L' := [(5, vI (l5 + 1)), (4, vI l5), (0, .ref (xb x + 0)), (1, vI l1), (2, vI l2), (3, vI l3)]) rfl ?_
      refine V_goto (tgt := 21) X dX1_under_79 (by decide) ?_
      exact V_sub [2, 3, 4, 5, 1, 0] rfl (hc21 _ (Option.some.inj h).symm)
    unfold x_under_b21 at h
    show V x 6 K 0 0 sz g 21 [(0, .ref (xb x + 0)), (1, vI l1), (2, vI l2), (3, vI l3), (4, vI l4), (5, vI l5)] []
    refine V_iload X dX1_under_21 5 rfl ?_
    refine V_iconst X dX1_under_23 ?_
    refine V_aload_n X dX1_under_24 0 rfl ?_
    obtain ⟨i25, hvi25, hki25, h⟩ := rdR_some h
    refine V_get (ci := 0) (N := 18) (C := RX1) (T := TX1) (o := 0) (j := 12) X rfl in_X1 (by decide) (hW.at 0 rfl) (by decide) q489 (fv_3i rfl hvi25) dX1_under_25 ?_
    refine V_getN (ci := 8) (N := 24) (C := RX9) (T := TX9) (o := i25) (j := 16) X rfl in_X9 (by decide) hki25 (by decide) q409 (fv_0 rfl) dX1_under_28 ?_
    refine V_ishl X dX1_under_31 ?_
    refine V_icmp_ge (tgt := 82) X dX1_under_32 (by decide) h (fun h => ?_) (fun h => ?_)
    · obtain ⟨e1, h, e1q⟩ := outR_some h
      replace h := h.trans (congrArg some (he21 _ e1q))
      refine V_iload X dX1_under_82 4 rfl ?_
      have hr := Option.some.inj h
      subst hr
      exact V_end_i hX rfl dX1_under_84
    · refine V_aload_n X dX1_under_35 0 rfl ?_
      obtain ⟨i36, hvi36, hki36, h⟩ := rdR_some h
      refine V_get (ci := 0) (N := 18) (C := RX1) (T := TX1) (o := 0) (j := 12) X rfl in_X1 (by decide) (hW.at 0 rfl) (by decide) q489 (fv_3i rfl hvi36) dX1_under_36 ?_
      refine V_iload_n X dX1_under_39 1 rfl ?_
      refine V_iload X dX1_under_40 5 rfl ?_
      refine V_iload_n X dX1_under_42 2 rfl ?_
      obtain ⟨c43, hc43, h⟩ := bind_some_eq h
      refine V_callV (ci := 8) (N := 24) (T := TX9) (As := [vI l1, vI l5, vI l2]) (rest := []) (s1 := [vI c43]) (o := i36) X (con_xRoad_sinks K hW N i36 hki36 g l1 l5 l2 c43 hc43) gwX1_sinks_336 hdV_X9_sinks ⟨Nat.le_of_ble_eq_true rfl, Nat.le_of_ble_eq_true rfl⟩ rfl (by decide) hki36 rfl rfl (Nat.le_of_ble_eq_true rfl) ⟨Nat.zero_le _, Nat.zero_le _⟩ dX1_under_43 rfl rfl ?_
      refine V_iload_n X dX1_under_46 3 rfl ?_
      refine V_icmp_le (tgt := 53) X dX1_under_47 (by decide) h (fun h => ?_) (fun h => ?_)
      · refine V_iload X dX1_under_53 4 rfl ?_
        refine V_iconst X dX1_under_55 ?_
        refine V_icmp_eq (tgt := 72) X dX1_under_56 (by decide) h (fun h => ?_) (fun h => ?_)
        · exact V_sub [0, 1, 2, 3, 5] rfl (J72 _ h)
        · refine V_iload X dX1_under_59 5 rfl ?_
          refine V_bits X q1331 ⟨Nat.le_of_ble_eq_true rfl, Nat.le_of_ble_eq_true rfl⟩ (Nat.le_of_ble_eq_true rfl) ⟨Nat.zero_le _, Nat.zero_le _⟩ dX1_under_61 ?_
          refine V_iload X dX1_under_64 4 rfl ?_
          refine V_bits X q1331 ⟨Nat.le_of_ble_eq_true rfl, Nat.le_of_ble_eq_true rfl⟩ (Nat.le_of_ble_eq_true rfl) ⟨Nat.zero_le _, Nat.zero_le _⟩ dX1_under_66 ?_
          refine V_icmp_ge (tgt := 76) X dX1_under_69 (by decide) h (fun h => ?_) (fun h => ?_)
          · refine V_iinc X dX1_under_76 5 rfl (by decide) (L' := [(5, vI (l5 + 1)), (0, .ref (xb x + 0)), (1, vI l1), (2, vI l2), (3, vI l3), (4, vI l4)]) rfl ?_
            refine V_goto (tgt := 21) X dX1_under_79 (by decide) ?_
            exact V_sub [1, 2, 3, 4, 5, 0] rfl (hc21 _ (Option.some.inj h).symm)
          · exact V_sub [0, 1, 2, 3, 5] rfl (J72 _ h)
      · refine V_goto (tgt := 76) X dX1_under_50 (by decide) ?_
        refine V_iinc X dX1_under_76 5 rfl (by decide) (L' := [(5, vI (l5 + 1)), (0, .ref (xb x + 0)), (1, vI l1), (2, vI l2), (3, vI l3), (4, vI l4)]) rfl ?_
        refine V_goto (tgt := 21) X dX1_under_79 (by decide) ?_
        exact V_sub [1, 2, 3, 4, 5, 0] rfl (hc21 _ (Option.some.inj h).symm)
  unfold x_under at h
  show V x 6 K 0 0 sz g 0 [(0, .ref (xb x + 0)), (1, vI l1), (2, vI l2), (3, vI l3)] []
  refine V_aload_n X dX1_under_0 0 rfl ?_
  refine V_iload_n X dX1_under_1 1 rfl ?_
  refine V_iload_n X dX1_under_2 2 rfl ?_
  obtain ⟨c3, hc3, h⟩ := bind_some_eq h
  rcases c3 with x3 | y3
  · replace h := thT_l h
    have hr := Option.some.inj h
    subst hr
    exact V_callVT (ci := 0) (N := 18) (T := TX1) (As := [vI l1, vI l2]) (rest := []) (o := 0) hX (con_x_jack K hW sz g l1 l2 (.inl x3) hc3) gwX1_jack_333 hdV_X1_jack ⟨Nat.le_of_ble_eq_true rfl, Nat.le_of_ble_eq_true rfl⟩ rfl (by decide) (hW.at 0 rfl) rfl rfl (Nat.le_of_ble_eq_true rfl) dX1_under_3 rfl
  replace h := thT_r h
  refine V_callV1 (ci := 0) (N := 18) (T := TX1) (As := [vI l1, vI l2]) (rest := []) (s1 := []) (o := 0) X (con_x_jack K hW sz g l1 l2 (.inr y3) hc3) gwX1_jack_333 hdV_X1_jack ⟨Nat.le_of_ble_eq_true rfl, Nat.le_of_ble_eq_true rfl⟩ rfl (by decide) (hW.at 0 rfl) rfl rfl (Nat.le_of_ble_eq_true rfl) ⟨Nat.zero_le _, Nat.zero_le _⟩ dX1_under_3 rfl rfl ?_
  refine V_aload_n X dX1_under_6 0 rfl ?_
  refine V_iload_n X dX1_under_7 3 rfl ?_
  refine V_iconst X dX1_under_8 ?_
  refine V_sipush X dX1_under_9 (by decide) ?_
  obtain ⟨c12, hc12, h⟩ := bind_some_eq h
  rcases c12 with x12 | y12
  · replace h := thT_l h
    have hr := Option.some.inj h
    subst hr
    exact V_callVT (ci := 0) (N := 18) (T := TX1) (As := [vI l3, vI 0, vI 9999]) (rest := []) (o := 0) hX (con_x_within K hW sz y3 l3 0 9999 (.inl x12) hc12) gwX1_within_125 hdV_X1_within ⟨Nat.le_of_ble_eq_true rfl, Nat.le_of_ble_eq_true rfl⟩ rfl (by decide) (hW.at 0 rfl) rfl rfl (Nat.le_of_ble_eq_true rfl) dX1_under_12 rfl
  replace h := thT_r h
  refine V_callV1 (ci := 0) (N := 18) (T := TX1) (As := [vI l3, vI 0, vI 9999]) (rest := []) (s1 := []) (o := 0) X (con_x_within K hW sz y3 l3 0 9999 (.inr y12) hc12) gwX1_within_125 hdV_X1_within ⟨Nat.le_of_ble_eq_true rfl, Nat.le_of_ble_eq_true rfl⟩ rfl (by decide) (hW.at 0 rfl) rfl rfl (Nat.le_of_ble_eq_true rfl) ⟨Nat.zero_le _, Nat.zero_le _⟩ dX1_under_12 rfl rfl ?_
  refine V_iconst X dX1_under_15 ?_
  refine V_istore X dX1_under_16 (by decide) (L' := [(4, vI (-1)), (0, .ref (xb x + 0)), (1, vI l1), (2, vI l2), (3, vI l3)]) rfl ?_
  refine V_iconst X dX1_under_18 ?_
  refine V_istore X dX1_under_19 (by decide) (L' := [(5, vI 0), (4, vI (-1)), (0, .ref (xb x + 0)), (1, vI l1), (2, vI l2), (3, vI l3)]) rfl ?_
  exact V_sub [2, 3, 4, 5, 1, 0] rfl (LL21 y12 l1 l2 l3 N ((-1), 0) _ h rfl)
set_option maxHeartbeats 4000000 in
theorem con_x_push (K : Nat → Nat) (hW : WFK K) (N : Nat) (sz : Nat) (g : GS) (l1 : Int) (l2 : Int) (l3 : Int) (l4 : Int) (r : ((Nat × GS) ⊕ (Int × GS))) (h : x_push N K g l1 l2 l3 l4 = some r) : ConX sz yX1_push cX1_push 9 (some .int) 9 205 K (fun b => [.ref (b + 0), vI l1, vI l2, vI l3, vI l4]) g (fun r => ((fun _ => some (vI r.1)), r.2)) r := by
  refine ConX.of RX1 (by decide) rfl (fun b => Nat.le_of_ble_eq_true rfl) (fun x hX => ?_)
  have X := hX.ok
  have LL31 : ∀ (g : GS) (l1 : Int) (l2 : Int) (l3 : Int) (l4 : Int) (n : Nat) (s : (Int × Int × Int)) (e : (Int × Int)), loopN (fun s => x_push_b31 N K g l1 l2 l3 l4 s.1 s.2.1 s.2.2) n s = some e → V x 9 K 0 0 sz g 91 [(4, vI l4), (5, vI e.1), (6, vI e.2)] [] → V x 9 K 0 0 sz g 31 [(0, .ref (xb x + 0)), (1, vI l1), (2, vI l2), (3, vI l3), (4, vI l4), (5, vI s.1), (6, vI s.2.1), (7, vI s.2.2)] [] := by
    intro g l1 l2 l3 l4 n s e
    refine loop_walk (P := fun s => V x 9 K 0 0 sz g 31 [(0, .ref (xb x + 0)), (1, vI l1), (2, vI l2), (3, vI l3), (4, vI l4), (5, vI s.1), (6, vI s.2.1), (7, vI s.2.2)] []) (E := fun e => V x 9 K 0 0 sz g 91 [(4, vI l4), (5, vI e.1), (6, vI e.2)] []) ?_ n s e
    clear e s n
    rintro ⟨l5, l6, l7⟩ q31 h hc31 he31
    replace h : x_push_b31 N K g l1 l2 l3 l4 l5 l6 l7 = some q31 := h
    have J77 : ∀ (l7 : Int) (l8 : Int), x_push_j77 N K g l1 l2 l3 l4 l7 l8 = some q31 → V x 9 K 0 0 sz g 77 [(0, .ref (xb x + 0)), (1, vI l1), (2, vI l2), (3, vI l3), (4, vI l4), (7, vI l7), (8, vI l8)] [] := by
      intro l7 l8 h
      unfold x_push_j77 at h
      refine V_iload X dX1_push_77 5 rfl ?_
      refine V_istore X dX1_push_79 (by decide) (L' := [(5, vI l7), (0, .ref (xb x + 0)), (1, vI l1), (2, vI l2), (3, vI l3), (4, vI l4), (7, vI l7), (8, vI l8)]) rfl ?_
      refine V_iload X dX1_push_81 7 rfl ?_
      refine V_istore X dX1_push_83 (by decide) (L' := [(6, vI l8), (5, vI l7), (0, .ref (xb x + 0)), (1, vI l1), (2, vI l2), (3, vI l3), (4, vI l4), (7, vI l7), (8, vI l8)]) rfl ?_
      refine V_iinc X dX1_push_85 7 rfl (by decide) (L' := [(7, vI (l7 + 1)), (6, vI l8), (5, vI l7), (0, .ref (xb x + 0)), (1, vI l1), (2, vI l2), (3, vI l3), (4, vI l4), (8, vI l8)]) rfl ?_
      refine V_goto (tgt := 31) X dX1_push_88 (by decide) ?_
      exact V_sub [3, 4, 5, 6, 7, 2, 1, 0] rfl (hc31 _ (Option.some.inj h).symm)
    unfold x_push_b31 at h
    show V x 9 K 0 0 sz g 31 [(0, .ref (xb x + 0)), (1, vI l1), (2, vI l2), (3, vI l3), (4, vI l4), (5, vI l5), (6, vI l6), (7, vI l7)] []
    refine V_iload X dX1_push_31 7 rfl ?_
    refine V_bipush X dX1_push_33 (by decide) ?_
    refine V_icmp_ge (tgt := 91) X dX1_push_35 (by decide) h (fun h => ?_) (fun h => ?_)
    · exact V_sub [4, 5, 6] rfl (he31 _ (Option.some.inj h).symm)
    · refine V_iload_n X dX1_push_38 2 rfl ?_
      refine V_iload X dX1_push_39 7 rfl ?_
      refine V_iload_n X dX1_push_41 1 rfl ?_
      refine V_isub X dX1_push_42 ?_
      refine V_abs X q1339 ⟨Nat.le_of_ble_eq_true rfl, Nat.le_of_ble_eq_true rfl⟩ (Nat.le_of_ble_eq_true rfl) ⟨Nat.zero_le _, Nat.zero_le _⟩ dX1_push_43 ?_
      refine V_imul X dX1_push_46 ?_
      refine V_aload_n X dX1_push_47 0 rfl ?_
      obtain ⟨i48, hvi48, hki48, h⟩ := rdR_some h
      refine V_get (ci := 0) (N := 18) (C := RX1) (T := TX1) (o := 0) (j := 12) X rfl in_X1 (by decide) (hW.at 0 rfl) (by decide) q489 (fv_3i rfl hvi48) dX1_push_48 ?_
      refine V_iload X dX1_push_51 7 rfl ?_
      refine V_iconst X dX1_push_53 ?_
      refine V_iload_n X dX1_push_54 3 rfl ?_
      obtain ⟨c55, hc55, h⟩ := bind_some_eq h
      refine V_callV (ci := 8) (N := 24) (T := TX9) (As := [vI l7, vI 0, vI l3]) (rest := [vI (l2 * (iabs (l7 - l1)))]) (s1 := [vI c55, vI (l2 * (iabs (l7 - l1)))]) (o := i48) X (con_xRoad_sinks K hW N i48 hki48 g l7 0 l3 c55 hc55) gwX1_sinks_336 hdV_X9_sinks ⟨Nat.le_of_ble_eq_true rfl, Nat.le_of_ble_eq_true rfl⟩ rfl (by decide) hki48 rfl rfl (Nat.le_of_ble_eq_true rfl) ⟨Nat.zero_le _, Nat.zero_le _⟩ dX1_push_55 rfl rfl ?_
      refine V_iadd X dX1_push_58 ?_
      refine V_istore X dX1_push_59 (by decide) (L' := [(8, vI ((l2 * (iabs (l7 - l1))) + c55)), (0, .ref (xb x + 0)), (1, vI l1), (2, vI l2), (3, vI l3), (4, vI l4), (5, vI l5), (6, vI l6), (7, vI l7)]) rfl ?_
      refine V_iload X dX1_push_61 7 rfl ?_
      refine V_iconst X dX1_push_63 ?_
      refine V_icmp_eq (tgt := 77) X dX1_push_64 (by decide) h (fun h => ?_) (fun h => ?_)
      · exact V_sub [1, 2, 3, 4, 5, 8, 0] rfl (J77 _ _ h)
      · refine V_iload X dX1_push_67 0 rfl ?_
        refine V_iload X dX1_push_69 7 rfl ?_
        refine V_icmp_lt (tgt := 77) X dX1_push_71 (by decide) h (fun h => ?_) (fun h => ?_)
        · exact V_sub [1, 2, 3, 4, 5, 8, 0] rfl (J77 _ _ h)
        · refine V_goto (tgt := 85) X dX1_push_74 (by decide) ?_
          refine V_iinc X dX1_push_85 8 rfl (by decide) (L' := [(7, vI (l7 + 1)), (8, vI ((l2 * (iabs (l7 - l1))) + c55)), (0, .ref (xb x + 0)), (1, vI l1), (2, vI l2), (3, vI l3), (4, vI l4), (5, vI l5), (6, vI l6)]) rfl ?_
          refine V_goto (tgt := 31) X dX1_push_88 (by decide) ?_
          exact V_sub [2, 3, 4, 5, 6, 7, 8, 0] rfl (hc31 _ (Option.some.inj h).symm)
  unfold x_push at h
  show V x 9 K 0 0 sz g 0 [(0, .ref (xb x + 0)), (1, vI l1), (2, vI l2), (3, vI l3), (4, vI l4)] []
  refine V_aload_n X dX1_push_0 0 rfl ?_
  refine V_iload_n X dX1_push_1 1 rfl ?_
  refine V_iload_n X dX1_push_2 3 rfl ?_
  obtain ⟨c3, hc3, h⟩ := bind_some_eq h
  rcases c3 with x3 | y3
  · replace h := thT_l h
    have hr := Option.some.inj h
    subst hr
    exact V_callVT (ci := 0) (N := 18) (T := TX1) (As := [vI l1, vI l3]) (rest := []) (o := 0) hX (con_x_jack K hW sz g l1 l3 (.inl x3) hc3) gwX1_jack_333 hdV_X1_jack ⟨Nat.le_of_ble_eq_true rfl, Nat.le_of_ble_eq_true rfl⟩ rfl (by decide) (hW.at 0 rfl) rfl rfl (Nat.le_of_ble_eq_true rfl) dX1_push_3 rfl
  replace h := thT_r h
  refine V_callV1 (ci := 0) (N := 18) (T := TX1) (As := [vI l1, vI l3]) (rest := []) (s1 := []) (o := 0) X (con_x_jack K hW sz g l1 l3 (.inr y3) hc3) gwX1_jack_333 hdV_X1_jack ⟨Nat.le_of_ble_eq_true rfl, Nat.le_of_ble_eq_true rfl⟩ rfl (by decide) (hW.at 0 rfl) rfl rfl (Nat.le_of_ble_eq_true rfl) ⟨Nat.zero_le _, Nat.zero_le _⟩ dX1_push_3 rfl rfl ?_
  refine V_aload_n X dX1_push_6 0 rfl ?_
  refine V_iload_n X dX1_push_7 2 rfl ?_
  refine V_iconst X dX1_push_8 ?_
  refine V_bipush X dX1_push_9 (by decide) ?_
  obtain ⟨c11, hc11, h⟩ := bind_some_eq h
  rcases c11 with x11 | y11
  · replace h := thT_l h
    have hr := Option.some.inj h
    subst hr
    exact V_callVT (ci := 0) (N := 18) (T := TX1) (As := [vI l2, vI 0, vI 99]) (rest := []) (o := 0) hX (con_x_within K hW sz y3 l2 0 99 (.inl x11) hc11) gwX1_within_125 hdV_X1_within ⟨Nat.le_of_ble_eq_true rfl, Nat.le_of_ble_eq_true rfl⟩ rfl (by decide) (hW.at 0 rfl) rfl rfl (Nat.le_of_ble_eq_true rfl) dX1_push_11 rfl
  replace h := thT_r h
  refine V_callV1 (ci := 0) (N := 18) (T := TX1) (As := [vI l2, vI 0, vI 99]) (rest := []) (s1 := []) (o := 0) X (con_x_within K hW sz y3 l2 0 99 (.inr y11) hc11) gwX1_within_125 hdV_X1_within ⟨Nat.le_of_ble_eq_true rfl, Nat.le_of_ble_eq_true rfl⟩ rfl (by decide) (hW.at 0 rfl) rfl rfl (Nat.le_of_ble_eq_true rfl) ⟨Nat.zero_le _, Nat.zero_le _⟩ dX1_push_11 rfl rfl ?_
  refine V_aload_n X dX1_push_14 0 rfl ?_
  refine V_iload X dX1_push_15 4 rfl ?_
  refine V_iconst X dX1_push_17 ?_
  refine V_iconst X dX1_push_18 ?_
  obtain ⟨c19, hc19, h⟩ := bind_some_eq h
  rcases c19 with x19 | y19
  · replace h := thT_l h
    have hr := Option.some.inj h
    subst hr
    exact V_callVT (ci := 0) (N := 18) (T := TX1) (As := [vI l4, vI 0, vI 1]) (rest := []) (o := 0) hX (con_x_within K hW sz y11 l4 0 1 (.inl x19) hc19) gwX1_within_125 hdV_X1_within ⟨Nat.le_of_ble_eq_true rfl, Nat.le_of_ble_eq_true rfl⟩ rfl (by decide) (hW.at 0 rfl) rfl rfl (Nat.le_of_ble_eq_true rfl) dX1_push_19 rfl
  replace h := thT_r h
  refine V_callV1 (ci := 0) (N := 18) (T := TX1) (As := [vI l4, vI 0, vI 1]) (rest := []) (s1 := []) (o := 0) X (con_x_within K hW sz y11 l4 0 1 (.inr y19) hc19) gwX1_within_125 hdV_X1_within ⟨Nat.le_of_ble_eq_true rfl, Nat.le_of_ble_eq_true rfl⟩ rfl (by decide) (hW.at 0 rfl) rfl rfl (Nat.le_of_ble_eq_true rfl) ⟨Nat.zero_le _, Nat.zero_le _⟩ dX1_push_19 rfl rfl ?_
  refine V_iconst X dX1_push_22 ?_
  refine V_istore X dX1_push_23 (by decide) (L' := [(5, vI 0), (0, .ref (xb x + 0)), (1, vI l1), (2, vI l2), (3, vI l3), (4, vI l4)]) rfl ?_
  refine V_iconst X dX1_push_25 ?_
  refine V_istore X dX1_push_26 (by decide) (L' := [(6, vI (-1)), (5, vI 0), (0, .ref (xb x + 0)), (1, vI l1), (2, vI l2), (3, vI l3), (4, vI l4)]) rfl ?_
  refine V_iconst X dX1_push_28 ?_
  refine V_istore X dX1_push_29 (by decide) (L' := [(7, vI 0), (6, vI (-1)), (5, vI 0), (0, .ref (xb x + 0)), (1, vI l1), (2, vI l2), (3, vI l3), (4, vI l4)]) rfl ?_
  obtain ⟨t1, t1q, h⟩ := bind_some_eq h
  refine V_sub [3, 4, 5, 6, 7, 2, 1, 0] rfl (LL31 y19 l1 l2 l3 l4 N (0, (-1), 0) _ t1q ?_)
  refine V_iload X dX1_push_91 0 rfl ?_
  refine V_if_ne (tgt := 101) X dX1_push_93 (by decide) h (fun h => ?_) (fun h => ?_)
  · refine V_iload X dX1_push_101 2 rfl ?_
    have hr := Option.some.inj h
    subst hr
    exact V_end_i hX rfl dX1_push_103
  · refine V_iload X dX1_push_96 1 rfl ?_
    refine V_goto (tgt := 103) X dX1_push_98 (by decide) ?_
    have hr := Option.some.inj h
    subst hr
    exact V_end_i hX rfl dX1_push_103
set_option maxHeartbeats 4000000 in
theorem con_x_strength (K : Nat → Nat) (hW : WFK K) (sz : Nat) (g : GS) (l1 : Int) (r : ((Nat × GS) ⊕ GS)) (h : x_strength g l1 = some r) : ConX sz yX1_strength cX1_strength 2 none 8 183 K (fun b => [.ref (b + 0), vI l1]) g (fun r => ((fun _ => none), r)) r := by
  refine ConX.of RX1 (by decide) rfl (fun b => Nat.le_of_ble_eq_true rfl) (fun x hX => ?_)
  have X := hX.ok
  unfold x_strength at h
  show V x 2 K 0 0 sz g 0 [(0, .ref (xb x + 0)), (1, vI l1)] []
  refine V_aload_n X dX1_strength_0 0 rfl ?_
  refine V_iload_n X dX1_strength_1 1 rfl ?_
  refine V_iconst X dX1_strength_2 ?_
  refine V_bipush X dX1_strength_3 (by decide) ?_
  obtain ⟨c5, hc5, h⟩ := bind_some_eq h
  rcases c5 with x5 | y5
  · replace h := thT_l h
    have hr := Option.some.inj h
    subst hr
    exact V_callVT (ci := 0) (N := 18) (T := TX1) (As := [vI l1, vI 0, vI 18]) (rest := []) (o := 0) hX (con_x_within K hW sz g l1 0 18 (.inl x5) hc5) gwX1_within_125 hdV_X1_within ⟨Nat.le_of_ble_eq_true rfl, Nat.le_of_ble_eq_true rfl⟩ rfl (by decide) (hW.at 0 rfl) rfl rfl (Nat.le_of_ble_eq_true rfl) dX1_strength_5 rfl
  replace h := thT_r h
  refine V_callV1 (ci := 0) (N := 18) (T := TX1) (As := [vI l1, vI 0, vI 18]) (rest := []) (s1 := []) (o := 0) X (con_x_within K hW sz g l1 0 18 (.inr y5) hc5) gwX1_within_125 hdV_X1_within ⟨Nat.le_of_ble_eq_true rfl, Nat.le_of_ble_eq_true rfl⟩ rfl (by decide) (hW.at 0 rfl) rfl rfl (Nat.le_of_ble_eq_true rfl) ⟨Nat.zero_le _, Nat.zero_le _⟩ dX1_strength_5 rfl rfl ?_
  have hr := Option.some.inj h
  subst hr
  exact V_end_v hX rfl dX1_strength_8
set_option maxHeartbeats 4000000 in
theorem con_x_tries (K : Nat → Nat) (hW : WFK K) (N : Nat) (sz : Nat) (g : GS) (l1 : Int) (l2 : Int) (l3 : Int) (l4 : Int) (r : ((Nat × GS) ⊕ (Int × GS))) (h : x_tries N K g l1 l2 l3 l4 = some r) : ConX sz yX1_tries cX1_tries 5 (some .long) 9 204 K (fun b => [.ref (b + 0), vI l1, vI l2, vI l3, vI l4]) g (fun r => ((fun _ => some (vL r.1)), r.2)) r := by
  refine ConX.of RX1 (by decide) rfl (fun b => Nat.le_of_ble_eq_true rfl) (fun x hX => ?_)
  have X := hX.ok
  unfold x_tries at h
  show V x 5 K 0 0 sz g 0 [(0, .ref (xb x + 0)), (1, vI l1), (2, vI l2), (3, vI l3), (4, vI l4)] []
  refine V_aload_n X dX1_tries_0 0 rfl ?_
  refine V_iload_n X dX1_tries_1 1 rfl ?_
  refine V_aload_n X dX1_tries_2 0 rfl ?_
  obtain ⟨i3, hvi3, hki3, h⟩ := rdR_some h
  refine V_get (ci := 0) (N := 18) (C := RX1) (T := TX1) (o := 0) (j := 12) X rfl in_X1 (by decide) (hW.at 0 rfl) (by decide) q489 (fv_3i rfl hvi3) dX1_tries_3 ?_
  refine V_getN (ci := 8) (N := 24) (C := RX9) (T := TX9) (o := i3) (j := 17) X rfl in_X9 (by decide) hki3 (by decide) q411 (fv_0 rfl) dX1_tries_6 ?_
  obtain ⟨c9, hc9, h⟩ := bind_some_eq h
  rcases c9 with x9 | y9
  · replace h := thT_l h
    have hr := Option.some.inj h
    subst hr
    exact V_callVT (ci := 0) (N := 18) (T := TX1) (As := [vI l1, vI (gI g 817 i3)]) (rest := []) (o := 0) hX (con_x_isThere K hW sz g l1 (gI g 817 i3) (.inl x9) hc9) gwX1_isThere_93 hdV_X1_isThere ⟨Nat.le_of_ble_eq_true rfl, Nat.le_of_ble_eq_true rfl⟩ rfl (by decide) (hW.at 0 rfl) rfl rfl (Nat.le_of_ble_eq_true rfl) dX1_tries_9 rfl
  replace h := thT_r h
  refine V_callV1 (ci := 0) (N := 18) (T := TX1) (As := [vI l1, vI (gI g 817 i3)]) (rest := []) (s1 := []) (o := 0) X (con_x_isThere K hW sz g l1 (gI g 817 i3) (.inr y9) hc9) gwX1_isThere_93 hdV_X1_isThere ⟨Nat.le_of_ble_eq_true rfl, Nat.le_of_ble_eq_true rfl⟩ rfl (by decide) (hW.at 0 rfl) rfl rfl (Nat.le_of_ble_eq_true rfl) ⟨Nat.zero_le _, Nat.zero_le _⟩ dX1_tries_9 rfl rfl ?_
  refine V_aload_n X dX1_tries_12 0 rfl ?_
  refine V_iload_n X dX1_tries_13 2 rfl ?_
  refine V_iconst X dX1_tries_14 ?_
  refine V_bipush X dX1_tries_15 (by decide) ?_
  obtain ⟨c17, hc17, h⟩ := bind_some_eq h
  rcases c17 with x17 | y17
  · replace h := thT_l h
    have hr := Option.some.inj h
    subst hr
    exact V_callVT (ci := 0) (N := 18) (T := TX1) (As := [vI l2, vI 0, vI 7]) (rest := []) (o := 0) hX (con_x_within K hW sz y9 l2 0 7 (.inl x17) hc17) gwX1_within_125 hdV_X1_within ⟨Nat.le_of_ble_eq_true rfl, Nat.le_of_ble_eq_true rfl⟩ rfl (by decide) (hW.at 0 rfl) rfl rfl (Nat.le_of_ble_eq_true rfl) dX1_tries_17 rfl
  replace h := thT_r h
  refine V_callV1 (ci := 0) (N := 18) (T := TX1) (As := [vI l2, vI 0, vI 7]) (rest := []) (s1 := []) (o := 0) X (con_x_within K hW sz y9 l2 0 7 (.inr y17) hc17) gwX1_within_125 hdV_X1_within ⟨Nat.le_of_ble_eq_true rfl, Nat.le_of_ble_eq_true rfl⟩ rfl (by decide) (hW.at 0 rfl) rfl rfl (Nat.le_of_ble_eq_true rfl) ⟨Nat.zero_le _, Nat.zero_le _⟩ dX1_tries_17 rfl rfl ?_
  refine V_aload_n X dX1_tries_20 0 rfl ?_
  refine V_iload_n X dX1_tries_21 3 rfl ?_
  obtain ⟨c22, hc22, h⟩ := bind_some_eq h
  rcases c22 with x22 | y22
  · replace h := thT_l h
    have hr := Option.some.inj h
    subst hr
    exact V_callVT (ci := 0) (N := 18) (T := TX1) (As := [vI l3]) (rest := []) (o := 0) hX (con_x_strength K hW sz y17 l3 (.inl x22) hc22) gwX1_strength_354 hdV_X1_strength ⟨Nat.le_of_ble_eq_true rfl, Nat.le_of_ble_eq_true rfl⟩ rfl (by decide) (hW.at 0 rfl) rfl rfl (Nat.le_of_ble_eq_true rfl) dX1_tries_22 rfl
  replace h := thT_r h
  refine V_callV1 (ci := 0) (N := 18) (T := TX1) (As := [vI l3]) (rest := []) (s1 := []) (o := 0) X (con_x_strength K hW sz y17 l3 (.inr y22) hc22) gwX1_strength_354 hdV_X1_strength ⟨Nat.le_of_ble_eq_true rfl, Nat.le_of_ble_eq_true rfl⟩ rfl (by decide) (hW.at 0 rfl) rfl rfl (Nat.le_of_ble_eq_true rfl) ⟨Nat.zero_le _, Nat.zero_le _⟩ dX1_tries_22 rfl rfl ?_
  refine V_aload_n X dX1_tries_25 0 rfl ?_
  refine V_iload X dX1_tries_26 4 rfl ?_
  refine V_iconst X dX1_tries_28 ?_
  refine V_iconst X dX1_tries_29 ?_
  obtain ⟨c30, hc30, h⟩ := bind_some_eq h
  rcases c30 with x30 | y30
  · replace h := thT_l h
    have hr := Option.some.inj h
    subst hr
    exact V_callVT (ci := 0) (N := 18) (T := TX1) (As := [vI l4, vI 0, vI 1]) (rest := []) (o := 0) hX (con_x_within K hW sz y22 l4 0 1 (.inl x30) hc30) gwX1_within_125 hdV_X1_within ⟨Nat.le_of_ble_eq_true rfl, Nat.le_of_ble_eq_true rfl⟩ rfl (by decide) (hW.at 0 rfl) rfl rfl (Nat.le_of_ble_eq_true rfl) dX1_tries_30 rfl
  replace h := thT_r h
  refine V_callV1 (ci := 0) (N := 18) (T := TX1) (As := [vI l4, vI 0, vI 1]) (rest := []) (s1 := []) (o := 0) X (con_x_within K hW sz y22 l4 0 1 (.inr y30) hc30) gwX1_within_125 hdV_X1_within ⟨Nat.le_of_ble_eq_true rfl, Nat.le_of_ble_eq_true rfl⟩ rfl (by decide) (hW.at 0 rfl) rfl rfl (Nat.le_of_ble_eq_true rfl) ⟨Nat.zero_le _, Nat.zero_le _⟩ dX1_tries_30 rfl rfl ?_
  refine V_bipush X dX1_tries_33 (by decide) ?_
  refine V_iload_n X dX1_tries_35 2 rfl ?_
  obtain ⟨c36, hc36, h⟩ := bind_some_eq h
  refine V_callS (As := [vI 16, vI l2]) (rest := []) (s1 := [vL c36]) X (con_x_power K hW N y30 16 l2 c36 hc36) gwX1_power_356 hdS_X1_power ⟨Nat.le_of_ble_eq_true rfl, Nat.le_of_ble_eq_true rfl⟩ rfl rfl (Nat.le_of_ble_eq_true rfl) ⟨Nat.zero_le _, Nat.zero_le _⟩ dX1_tries_36 rfl rfl ?_
  refine V_bipush X dX1_tries_39 (by decide) ?_
  refine V_aload_n X dX1_tries_41 0 rfl ?_
  refine V_iload_n X dX1_tries_42 1 rfl ?_
  refine V_iload_n X dX1_tries_43 3 rfl ?_
  obtain ⟨c44, hc44, h⟩ := bind_some_eq h
  refine V_callV (ci := 0) (N := 18) (T := TX1) (As := [vI l1, vI l3]) (rest := [vI 16, vL c36]) (s1 := [vI c44, vI 16, vL c36]) (o := 0) X (con_x_loosens K hW y30 l1 l3 c44 hc44) gwX1_loosens_360 hdV_X1_loosens ⟨Nat.le_of_ble_eq_true rfl, Nat.le_of_ble_eq_true rfl⟩ rfl (by decide) (hW.at 0 rfl) rfl rfl (Nat.le_of_ble_eq_true rfl) ⟨Nat.zero_le _, Nat.zero_le _⟩ dX1_tries_44 rfl rfl ?_
  refine V_isub X dX1_tries_47 ?_
  refine V_iload_n X dX1_tries_48 2 rfl ?_
  obtain ⟨c49, hc49, h⟩ := bind_some_eq h
  refine V_callS (As := [vI (16 - c44), vI l2]) (rest := [vL c36]) (s1 := [vL c49, vL c36]) X (con_x_power K hW N y30 (16 - c44) l2 c49 hc49) gwX1_power_356 hdS_X1_power ⟨Nat.le_of_ble_eq_true rfl, Nat.le_of_ble_eq_true rfl⟩ rfl rfl (Nat.le_of_ble_eq_true rfl) ⟨Nat.zero_le _, Nat.zero_le _⟩ dX1_tries_49 rfl rfl ?_
  refine V_lsub X dX1_tries_52 ?_
  refine V_bipush X dX1_tries_53 (by decide) ?_
  refine V_iload_n X dX1_tries_55 2 rfl ?_
  obtain ⟨c56, hc56, h⟩ := bind_some_eq h
  refine V_callS (As := [vI 16, vI l2]) (rest := [vL (c36 - c49)]) (s1 := [vL c56, vL (c36 - c49)]) X (con_x_power K hW N y30 16 l2 c56 hc56) gwX1_power_356 hdS_X1_power ⟨Nat.le_of_ble_eq_true rfl, Nat.le_of_ble_eq_true rfl⟩ rfl rfl (Nat.le_of_ble_eq_true rfl) ⟨Nat.zero_le _, Nat.zero_le _⟩ dX1_tries_56 rfl rfl ?_
  refine V_iload X dX1_tries_59 4 rfl ?_
  obtain ⟨c61, hc61, h⟩ := bind_some_eq h
  refine V_callS (As := [vL (c36 - c49), vL c56, vI l4]) (rest := []) (s1 := [vL c61]) X (con_x_part K hW N y30 (c36 - c49) c56 l4 c61 hc61) gwX1_part_363 hdS_X1_part ⟨Nat.le_of_ble_eq_true rfl, Nat.le_of_ble_eq_true rfl⟩ rfl rfl (Nat.le_of_ble_eq_true rfl) ⟨Nat.zero_le _, Nat.zero_le _⟩ dX1_tries_61 rfl rfl ?_
  have hr := Option.some.inj h
  subst hr
  exact V_end_l hX rfl dX1_tries_64
set_option maxHeartbeats 4000000 in
theorem con_x_half (K : Nat → Nat) (hW : WFK K) (N : Nat) (sz : Nat) (g : GS) (l1 : Int) (l2 : Int) (r : ((Nat × GS) ⊕ (Int × GS))) (h : x_half N K g l1 l2 = some r) : ConX sz yX1_half cX1_half 4 (some .int) 9 204 K (fun b => [.ref (b + 0), vI l1, vI l2]) g (fun r => ((fun _ => some (vI r.1)), r.2)) r := by
  refine ConX.of RX1 (by decide) rfl (fun b => Nat.le_of_ble_eq_true rfl) (fun x hX => ?_)
  have X := hX.ok
  have LL19 : ∀ (g : GS) (l1 : Int) (l2 : Int) (n : Nat) (s : (Int)) (e : ((Nat × GS) ⊕ (Int × GS))), loopN (fun s => x_half_b19 N K g l1 l2 s) n s = some e → (e = r) → V x 4 K 0 0 sz g 19 [(0, .ref (xb x + 0)), (1, vI l1), (2, vI l2), (3, vI s)] [] := by
    intro g l1 l2 n s e
    refine loop_walk (P := fun s => V x 4 K 0 0 sz g 19 [(0, .ref (xb x + 0)), (1, vI l1), (2, vI l2), (3, vI s)] []) (E := fun e => e = r) ?_ n s e
    clear e s n
    rintro l3 q19 h hc19 he19
    replace h : x_half_b19 N K g l1 l2 l3 = some q19 := h
    unfold x_half_b19 at h
    show V x 4 K 0 0 sz g 19 [(0, .ref (xb x + 0)), (1, vI l1), (2, vI l2), (3, vI l3)] []
    refine V_iload_n X dX1_half_19 3 rfl ?_
    refine V_bipush X dX1_half_20 (by decide) ?_
    refine V_icmp_ge (tgt := 60) X dX1_half_22 (by decide) h (fun h => ?_) (fun h => ?_)
    · obtain ⟨e1, h, e1q⟩ := outR_some h
      replace h := h.trans (congrArg some (he19 _ e1q))
      refine V_iconst X dX1_half_60 ?_
      have hr := Option.some.inj h
      subst hr
      exact V_end_i hX rfl dX1_half_61
    · refine V_ldc2 X q1370 (n := 2) (by decide) dX1_half_25 ?_
      refine V_bipush X dX1_half_28 (by decide) ?_
      refine V_aload_n X dX1_half_30 0 rfl ?_
      refine V_iload_n X dX1_half_31 1 rfl ?_
      refine V_iload_n X dX1_half_32 2 rfl ?_
      obtain ⟨c33, hc33, h⟩ := bind_some_eq h
      refine V_callV (ci := 0) (N := 18) (T := TX1) (As := [vI l1, vI l2]) (rest := [vI 16, vL 2]) (s1 := [vI c33, vI 16, vL 2]) (o := 0) X (con_x_loosens K hW g l1 l2 c33 hc33) gwX1_loosens_360 hdV_X1_loosens ⟨Nat.le_of_ble_eq_true rfl, Nat.le_of_ble_eq_true rfl⟩ rfl (by decide) (hW.at 0 rfl) rfl rfl (Nat.le_of_ble_eq_true rfl) ⟨Nat.zero_le _, Nat.zero_le _⟩ dX1_half_33 rfl rfl ?_
      refine V_isub X dX1_half_36 ?_
      refine V_iload_n X dX1_half_37 3 rfl ?_
      obtain ⟨c38, hc38, h⟩ := bind_some_eq h
      refine V_callS (As := [vI (16 - c33), vI l3]) (rest := [vL 2]) (s1 := [vL c38, vL 2]) X (con_x_power K hW N g (16 - c33) l3 c38 hc38) gwX1_power_356 hdS_X1_power ⟨Nat.le_of_ble_eq_true rfl, Nat.le_of_ble_eq_true rfl⟩ rfl rfl (Nat.le_of_ble_eq_true rfl) ⟨Nat.zero_le _, Nat.zero_le _⟩ dX1_half_38 rfl rfl ?_
      refine V_lmul X dX1_half_41 ?_
      refine V_bipush X dX1_half_42 (by decide) ?_
      refine V_iload_n X dX1_half_44 3 rfl ?_
      obtain ⟨c45, hc45, h⟩ := bind_some_eq h
      refine V_callS (As := [vI 16, vI l3]) (rest := [vL (2 * c38)]) (s1 := [vL c45, vL (2 * c38)]) X (con_x_power K hW N g 16 l3 c45 hc45) gwX1_power_356 hdS_X1_power ⟨Nat.le_of_ble_eq_true rfl, Nat.le_of_ble_eq_true rfl⟩ rfl rfl (Nat.le_of_ble_eq_true rfl) ⟨Nat.zero_le _, Nat.zero_le _⟩ dX1_half_45 rfl rfl ?_
      refine V_lcmp X dX1_half_48 ?_
      refine V_if_gt (tgt := 54) X dX1_half_49 (by decide) h (fun h => ?_) (fun h => ?_)
      · refine V_iinc X dX1_half_54 3 rfl (by decide) (L' := [(3, vI (l3 + 1)), (0, .ref (xb x + 0)), (1, vI l1), (2, vI l2)]) rfl ?_
        refine V_goto (tgt := 19) X dX1_half_57 (by decide) ?_
        exact V_sub [1, 2, 3, 0] rfl (hc19 _ (Option.some.inj h).symm)
      · obtain ⟨e2, h, e2q⟩ := outR_some h
        replace h := h.trans (congrArg some (he19 _ e2q))
        refine V_iload_n X dX1_half_52 3 rfl ?_
        have hr := Option.some.inj h
        subst hr
        exact V_end_i hX rfl dX1_half_53
  unfold x_half at h
  show V x 4 K 0 0 sz g 0 [(0, .ref (xb x + 0)), (1, vI l1), (2, vI l2)] []
  refine V_aload_n X dX1_half_0 0 rfl ?_
  refine V_iload_n X dX1_half_1 1 rfl ?_
  refine V_aload_n X dX1_half_2 0 rfl ?_
  obtain ⟨i3, hvi3, hki3, h⟩ := rdR_some h
  refine V_get (ci := 0) (N := 18) (C := RX1) (T := TX1) (o := 0) (j := 12) X rfl in_X1 (by decide) (hW.at 0 rfl) (by decide) q489 (fv_3i rfl hvi3) dX1_half_3 ?_
  refine V_getN (ci := 8) (N := 24) (C := RX9) (T := TX9) (o := i3) (j := 17) X rfl in_X9 (by decide) hki3 (by decide) q411 (fv_0 rfl) dX1_half_6 ?_
  obtain ⟨c9, hc9, h⟩ := bind_some_eq h
  rcases c9 with x9 | y9
  · replace h := thT_l h
    have hr := Option.some.inj h
    subst hr
    exact V_callVT (ci := 0) (N := 18) (T := TX1) (As := [vI l1, vI (gI g 817 i3)]) (rest := []) (o := 0) hX (con_x_isThere K hW sz g l1 (gI g 817 i3) (.inl x9) hc9) gwX1_isThere_93 hdV_X1_isThere ⟨Nat.le_of_ble_eq_true rfl, Nat.le_of_ble_eq_true rfl⟩ rfl (by decide) (hW.at 0 rfl) rfl rfl (Nat.le_of_ble_eq_true rfl) dX1_half_9 rfl
  replace h := thT_r h
  refine V_callV1 (ci := 0) (N := 18) (T := TX1) (As := [vI l1, vI (gI g 817 i3)]) (rest := []) (s1 := []) (o := 0) X (con_x_isThere K hW sz g l1 (gI g 817 i3) (.inr y9) hc9) gwX1_isThere_93 hdV_X1_isThere ⟨Nat.le_of_ble_eq_true rfl, Nat.le_of_ble_eq_true rfl⟩ rfl (by decide) (hW.at 0 rfl) rfl rfl (Nat.le_of_ble_eq_true rfl) ⟨Nat.zero_le _, Nat.zero_le _⟩ dX1_half_9 rfl rfl ?_
  refine V_aload_n X dX1_half_12 0 rfl ?_
  refine V_iload_n X dX1_half_13 2 rfl ?_
  obtain ⟨c14, hc14, h⟩ := bind_some_eq h
  rcases c14 with x14 | y14
  · replace h := thT_l h
    have hr := Option.some.inj h
    subst hr
    exact V_callVT (ci := 0) (N := 18) (T := TX1) (As := [vI l2]) (rest := []) (o := 0) hX (con_x_strength K hW sz y9 l2 (.inl x14) hc14) gwX1_strength_354 hdV_X1_strength ⟨Nat.le_of_ble_eq_true rfl, Nat.le_of_ble_eq_true rfl⟩ rfl (by decide) (hW.at 0 rfl) rfl rfl (Nat.le_of_ble_eq_true rfl) dX1_half_14 rfl
  replace h := thT_r h
  refine V_callV1 (ci := 0) (N := 18) (T := TX1) (As := [vI l2]) (rest := []) (s1 := []) (o := 0) X (con_x_strength K hW sz y9 l2 (.inr y14) hc14) gwX1_strength_354 hdV_X1_strength ⟨Nat.le_of_ble_eq_true rfl, Nat.le_of_ble_eq_true rfl⟩ rfl (by decide) (hW.at 0 rfl) rfl rfl (Nat.le_of_ble_eq_true rfl) ⟨Nat.zero_le _, Nat.zero_le _⟩ dX1_half_14 rfl rfl ?_
  refine V_iconst X dX1_half_17 ?_
  refine V_istore_n X dX1_half_18 (by decide) (L' := [(3, vI 1), (0, .ref (xb x + 0)), (1, vI l1), (2, vI l2)]) rfl ?_
  exact V_sub [1, 2, 3, 0] rfl (LL19 y14 l1 l2 N 1 _ h rfl)
set_option maxHeartbeats 4000000 in
theorem con_x_easiest (K : Nat → Nat) (hW : WFK K) (N : Nat) (sz : Nat) (g : GS) (l1 : Int) (r : ((Nat × GS) ⊕ (Int × GS))) (h : x_easiest N K g l1 = some r) : ConX sz yX1_easiest cX1_easiest 4 (some .int) 9 204 K (fun b => [.ref (b + 0), vI l1]) g (fun r => ((fun _ => some (vI r.1)), r.2)) r := by
  refine ConX.of RX1 (by decide) rfl (fun b => Nat.le_of_ble_eq_true rfl) (fun x hX => ?_)
  have X := hX.ok
  have LL9 : ∀ (g : GS) (l1 : Int) (n : Nat) (s : (Int × Int)) (e : ((Nat × GS) ⊕ (Int × GS))), loopN (fun s => x_easiest_b9 N K g l1 s.1 s.2) n s = some e → (e = r) → V x 4 K 0 0 sz g 9 [(0, .ref (xb x + 0)), (1, vI l1), (2, vI s.1), (3, vI s.2)] [] := by
    intro g l1 n s e
    refine loop_walk (P := fun s => V x 4 K 0 0 sz g 9 [(0, .ref (xb x + 0)), (1, vI l1), (2, vI s.1), (3, vI s.2)] []) (E := fun e => e = r) ?_ n s e
    clear e s n
    rintro ⟨l2, l3⟩ q9 h hc9 he9
    replace h : x_easiest_b9 N K g l1 l2 l3 = some q9 := h
    have J40 : ∀ (l3 : Int), x_easiest_j40 N K g l1 l3 = some q9 → V x 4 K 0 0 sz g 40 [(0, .ref (xb x + 0)), (1, vI l1), (3, vI l3)] [] := by
      intro l3 h
      unfold x_easiest_j40 at h
      refine V_iload_n X dX1_easiest_40 2 rfl ?_
      refine V_istore_n X dX1_easiest_41 (by decide) (L' := [(2, vI l3), (0, .ref (xb x + 0)), (1, vI l1), (3, vI l3)]) rfl ?_
      refine V_iinc X dX1_easiest_42 3 rfl (by decide) (L' := [(3, vI (l3 + 1)), (2, vI l3), (0, .ref (xb x + 0)), (1, vI l1)]) rfl ?_
      refine V_goto (tgt := 9) X dX1_easiest_45 (by decide) ?_
      exact V_sub [2, 3, 1, 0] rfl (hc9 _ (Option.some.inj h).symm)
    unfold x_easiest_b9 at h
    show V x 4 K 0 0 sz g 9 [(0, .ref (xb x + 0)), (1, vI l1), (2, vI l2), (3, vI l3)] []
    refine V_iload_n X dX1_easiest_9 3 rfl ?_
    refine V_aload_n X dX1_easiest_10 0 rfl ?_
    obtain ⟨i11, hvi11, hki11, h⟩ := rdR_some h
    refine V_get (ci := 0) (N := 18) (C := RX1) (T := TX1) (o := 0) (j := 12) X rfl in_X1 (by decide) (hW.at 0 rfl) (by decide) q489 (fv_3i rfl hvi11) dX1_easiest_11 ?_
    refine V_getN (ci := 8) (N := 24) (C := RX9) (T := TX9) (o := i11) (j := 17) X rfl in_X9 (by decide) hki11 (by decide) q411 (fv_0 rfl) dX1_easiest_14 ?_
    refine V_icmp_ge (tgt := 48) X dX1_easiest_17 (by decide) h (fun h => ?_) (fun h => ?_)
    · obtain ⟨e1, h, e1q⟩ := outR_some h
      replace h := h.trans (congrArg some (he9 _ e1q))
      refine V_iload_n X dX1_easiest_48 2 rfl ?_
      have hr := Option.some.inj h
      subst hr
      exact V_end_i hX rfl dX1_easiest_49
    · refine V_iload_n X dX1_easiest_20 2 rfl ?_
      refine V_iconst X dX1_easiest_21 ?_
      refine V_icmp_eq (tgt := 40) X dX1_easiest_22 (by decide) h (fun h => ?_) (fun h => ?_)
      · exact V_sub [0, 1, 3] rfl (J40 _ h)
      · refine V_aload_n X dX1_easiest_25 0 rfl ?_
        refine V_iload_n X dX1_easiest_26 3 rfl ?_
        refine V_iload_n X dX1_easiest_27 1 rfl ?_
        obtain ⟨c28, hc28, h⟩ := bind_some_eq h
        refine V_callV (ci := 0) (N := 18) (T := TX1) (As := [vI l3, vI l1]) (rest := []) (s1 := [vI c28]) (o := 0) X (con_x_loosens K hW g l3 l1 c28 hc28) gwX1_loosens_360 hdV_X1_loosens ⟨Nat.le_of_ble_eq_true rfl, Nat.le_of_ble_eq_true rfl⟩ rfl (by decide) (hW.at 0 rfl) rfl rfl (Nat.le_of_ble_eq_true rfl) ⟨Nat.zero_le _, Nat.zero_le _⟩ dX1_easiest_28 rfl rfl ?_
        refine V_aload_n X dX1_easiest_31 0 rfl ?_
        refine V_iload_n X dX1_easiest_32 2 rfl ?_
        refine V_iload_n X dX1_easiest_33 1 rfl ?_
        obtain ⟨c34, hc34, h⟩ := bind_some_eq h
        refine V_callV (ci := 0) (N := 18) (T := TX1) (As := [vI l2, vI l1]) (rest := [vI c28]) (s1 := [vI c34, vI c28]) (o := 0) X (con_x_loosens K hW g l2 l1 c34 hc34) gwX1_loosens_360 hdV_X1_loosens ⟨Nat.le_of_ble_eq_true rfl, Nat.le_of_ble_eq_true rfl⟩ rfl (by decide) (hW.at 0 rfl) rfl rfl (Nat.le_of_ble_eq_true rfl) ⟨Nat.zero_le _, Nat.zero_le _⟩ dX1_easiest_34 rfl rfl ?_
        refine V_icmp_le (tgt := 42) X dX1_easiest_37 (by decide) h (fun h => ?_) (fun h => ?_)
        · refine V_iinc X dX1_easiest_42 3 rfl (by decide) (L' := [(3, vI (l3 + 1)), (0, .ref (xb x + 0)), (1, vI l1), (2, vI l2)]) rfl ?_
          refine V_goto (tgt := 9) X dX1_easiest_45 (by decide) ?_
          exact V_sub [1, 2, 3, 0] rfl (hc9 _ (Option.some.inj h).symm)
        · exact V_sub [0, 1, 3] rfl (J40 _ h)
  unfold x_easiest at h
  show V x 4 K 0 0 sz g 0 [(0, .ref (xb x + 0)), (1, vI l1)] []
  refine V_aload_n X dX1_easiest_0 0 rfl ?_
  refine V_iload_n X dX1_easiest_1 1 rfl ?_
  obtain ⟨c2, hc2, h⟩ := bind_some_eq h
  rcases c2 with x2 | y2
  · replace h := thT_l h
    have hr := Option.some.inj h
    subst hr
    exact V_callVT (ci := 0) (N := 18) (T := TX1) (As := [vI l1]) (rest := []) (o := 0) hX (con_x_strength K hW sz g l1 (.inl x2) hc2) gwX1_strength_354 hdV_X1_strength ⟨Nat.le_of_ble_eq_true rfl, Nat.le_of_ble_eq_true rfl⟩ rfl (by decide) (hW.at 0 rfl) rfl rfl (Nat.le_of_ble_eq_true rfl) dX1_easiest_2 rfl
  replace h := thT_r h
  refine V_callV1 (ci := 0) (N := 18) (T := TX1) (As := [vI l1]) (rest := []) (s1 := []) (o := 0) X (con_x_strength K hW sz g l1 (.inr y2) hc2) gwX1_strength_354 hdV_X1_strength ⟨Nat.le_of_ble_eq_true rfl, Nat.le_of_ble_eq_true rfl⟩ rfl (by decide) (hW.at 0 rfl) rfl rfl (Nat.le_of_ble_eq_true rfl) ⟨Nat.zero_le _, Nat.zero_le _⟩ dX1_easiest_2 rfl rfl ?_
  refine V_iconst X dX1_easiest_5 ?_
  refine V_istore_n X dX1_easiest_6 (by decide) (L' := [(2, vI (-1)), (0, .ref (xb x + 0)), (1, vI l1)]) rfl ?_
  refine V_iconst X dX1_easiest_7 ?_
  refine V_istore_n X dX1_easiest_8 (by decide) (L' := [(3, vI 0), (2, vI (-1)), (0, .ref (xb x + 0)), (1, vI l1)]) rfl ?_
  exact V_sub [2, 3, 1, 0] rfl (LL9 y2 l1 N ((-1), 0) _ h rfl)
set_option maxHeartbeats 4000000 in
theorem con_x_waiting (K : Nat → Nat) (hW : WFK K) (sz : Nat) (g : GS) (l1 : Int) (l2 : Int) (r : ((Nat × GS) ⊕ GS)) (h : x_waiting g l1 l2 = some r) : ConX sz yX1_waiting cX1_waiting 3 none 8 183 K (fun b => [.ref (b + 0), vI l1, vI l2]) g (fun r => ((fun _ => none), r)) r := by
  refine ConX.of RX1 (by decide) rfl (fun b => Nat.le_of_ble_eq_true rfl) (fun x hX => ?_)
  have X := hX.ok
  unfold x_waiting at h
  show V x 3 K 0 0 sz g 0 [(0, .ref (xb x + 0)), (1, vI l1), (2, vI l2)] []
  refine V_aload_n X dX1_waiting_0 0 rfl ?_
  refine V_iload_n X dX1_waiting_1 1 rfl ?_
  refine V_iconst X dX1_waiting_2 ?_
  refine V_sipush X dX1_waiting_3 (by decide) ?_
  obtain ⟨c6, hc6, h⟩ := bind_some_eq h
  rcases c6 with x6 | y6
  · replace h := thT_l h
    have hr := Option.some.inj h
    subst hr
    exact V_callVT (ci := 0) (N := 18) (T := TX1) (As := [vI l1, vI 0, vI 240]) (rest := []) (o := 0) hX (con_x_within K hW sz g l1 0 240 (.inl x6) hc6) gwX1_within_125 hdV_X1_within ⟨Nat.le_of_ble_eq_true rfl, Nat.le_of_ble_eq_true rfl⟩ rfl (by decide) (hW.at 0 rfl) rfl rfl (Nat.le_of_ble_eq_true rfl) dX1_waiting_6 rfl
  replace h := thT_r h
  refine V_callV1 (ci := 0) (N := 18) (T := TX1) (As := [vI l1, vI 0, vI 240]) (rest := []) (s1 := []) (o := 0) X (con_x_within K hW sz g l1 0 240 (.inr y6) hc6) gwX1_within_125 hdV_X1_within ⟨Nat.le_of_ble_eq_true rfl, Nat.le_of_ble_eq_true rfl⟩ rfl (by decide) (hW.at 0 rfl) rfl rfl (Nat.le_of_ble_eq_true rfl) ⟨Nat.zero_le _, Nat.zero_le _⟩ dX1_waiting_6 rfl rfl ?_
  refine V_aload_n X dX1_waiting_9 0 rfl ?_
  refine V_iload_n X dX1_waiting_10 2 rfl ?_
  refine V_iconst X dX1_waiting_11 ?_
  refine V_sipush X dX1_waiting_12 (by decide) ?_
  obtain ⟨c15, hc15, h⟩ := bind_some_eq h
  rcases c15 with x15 | y15
  · replace h := thT_l h
    have hr := Option.some.inj h
    subst hr
    exact V_callVT (ci := 0) (N := 18) (T := TX1) (As := [vI l2, vI 0, vI 240]) (rest := []) (o := 0) hX (con_x_within K hW sz y6 l2 0 240 (.inl x15) hc15) gwX1_within_125 hdV_X1_within ⟨Nat.le_of_ble_eq_true rfl, Nat.le_of_ble_eq_true rfl⟩ rfl (by decide) (hW.at 0 rfl) rfl rfl (Nat.le_of_ble_eq_true rfl) dX1_waiting_15 rfl
  replace h := thT_r h
  refine V_callV1 (ci := 0) (N := 18) (T := TX1) (As := [vI l2, vI 0, vI 240]) (rest := []) (s1 := []) (o := 0) X (con_x_within K hW sz y6 l2 0 240 (.inr y15) hc15) gwX1_within_125 hdV_X1_within ⟨Nat.le_of_ble_eq_true rfl, Nat.le_of_ble_eq_true rfl⟩ rfl (by decide) (hW.at 0 rfl) rfl rfl (Nat.le_of_ble_eq_true rfl) ⟨Nat.zero_le _, Nat.zero_le _⟩ dX1_waiting_15 rfl rfl ?_
  have hr := Option.some.inj h
  subst hr
  exact V_end_v hX rfl dX1_waiting_18
set_option maxHeartbeats 4000000 in
theorem con_x_waits (K : Nat → Nat) (hW : WFK K) (N : Nat) (sz : Nat) (g : GS) (l1 : Int) (l2 : Int) (l3 : Int) (l4 : Int) (r : ((Nat × GS) ⊕ (Int × GS))) (h : x_waits N K g l1 l2 l3 l4 = some r) : ConX sz yX1_waits cX1_waits 5 (some .long) 9 205 K (fun b => [.ref (b + 0), vI l1, vI l2, vI l3, vI l4]) g (fun r => ((fun _ => some (vL r.1)), r.2)) r := by
  refine ConX.of RX1 (by decide) rfl (fun b => Nat.le_of_ble_eq_true rfl) (fun x hX => ?_)
  have X := hX.ok
  unfold x_waits at h
  show V x 5 K 0 0 sz g 0 [(0, .ref (xb x + 0)), (1, vI l1), (2, vI l2), (3, vI l3), (4, vI l4)] []
  refine V_aload_n X dX1_waits_0 0 rfl ?_
  refine V_iload_n X dX1_waits_1 1 rfl ?_
  refine V_iconst X dX1_waits_2 ?_
  refine V_bipush X dX1_waits_3 (by decide) ?_
  obtain ⟨c5, hc5, h⟩ := bind_some_eq h
  rcases c5 with x5 | y5
  · replace h := thT_l h
    have hr := Option.some.inj h
    subst hr
    exact V_callVT (ci := 0) (N := 18) (T := TX1) (As := [vI l1, vI 0, vI 8]) (rest := []) (o := 0) hX (con_x_within K hW sz g l1 0 8 (.inl x5) hc5) gwX1_within_125 hdV_X1_within ⟨Nat.le_of_ble_eq_true rfl, Nat.le_of_ble_eq_true rfl⟩ rfl (by decide) (hW.at 0 rfl) rfl rfl (Nat.le_of_ble_eq_true rfl) dX1_waits_5 rfl
  replace h := thT_r h
  refine V_callV1 (ci := 0) (N := 18) (T := TX1) (As := [vI l1, vI 0, vI 8]) (rest := []) (s1 := []) (o := 0) X (con_x_within K hW sz g l1 0 8 (.inr y5) hc5) gwX1_within_125 hdV_X1_within ⟨Nat.le_of_ble_eq_true rfl, Nat.le_of_ble_eq_true rfl⟩ rfl (by decide) (hW.at 0 rfl) rfl rfl (Nat.le_of_ble_eq_true rfl) ⟨Nat.zero_le _, Nat.zero_le _⟩ dX1_waits_5 rfl rfl ?_
  refine V_aload_n X dX1_waits_8 0 rfl ?_
  refine V_iload_n X dX1_waits_9 2 rfl ?_
  refine V_iload_n X dX1_waits_10 3 rfl ?_
  obtain ⟨c11, hc11, h⟩ := bind_some_eq h
  rcases c11 with x11 | y11
  · replace h := thT_l h
    have hr := Option.some.inj h
    subst hr
    exact V_callVT (ci := 0) (N := 18) (T := TX1) (As := [vI l2, vI l3]) (rest := []) (o := 0) hX (con_x_waiting K hW sz y5 l2 l3 (.inl x11) hc11) gwX1_waiting_369 hdV_X1_waiting ⟨Nat.le_of_ble_eq_true rfl, Nat.le_of_ble_eq_true rfl⟩ rfl (by decide) (hW.at 0 rfl) rfl rfl (Nat.le_of_ble_eq_true rfl) dX1_waits_11 rfl
  replace h := thT_r h
  refine V_callV1 (ci := 0) (N := 18) (T := TX1) (As := [vI l2, vI l3]) (rest := []) (s1 := []) (o := 0) X (con_x_waiting K hW sz y5 l2 l3 (.inr y11) hc11) gwX1_waiting_369 hdV_X1_waiting ⟨Nat.le_of_ble_eq_true rfl, Nat.le_of_ble_eq_true rfl⟩ rfl (by decide) (hW.at 0 rfl) rfl rfl (Nat.le_of_ble_eq_true rfl) ⟨Nat.zero_le _, Nat.zero_le _⟩ dX1_waits_11 rfl rfl ?_
  refine V_aload_n X dX1_waits_14 0 rfl ?_
  refine V_iload X dX1_waits_15 4 rfl ?_
  refine V_iconst X dX1_waits_17 ?_
  refine V_iconst X dX1_waits_18 ?_
  obtain ⟨c19, hc19, h⟩ := bind_some_eq h
  rcases c19 with x19 | y19
  · replace h := thT_l h
    have hr := Option.some.inj h
    subst hr
    exact V_callVT (ci := 0) (N := 18) (T := TX1) (As := [vI l4, vI 0, vI 1]) (rest := []) (o := 0) hX (con_x_within K hW sz y11 l4 0 1 (.inl x19) hc19) gwX1_within_125 hdV_X1_within ⟨Nat.le_of_ble_eq_true rfl, Nat.le_of_ble_eq_true rfl⟩ rfl (by decide) (hW.at 0 rfl) rfl rfl (Nat.le_of_ble_eq_true rfl) dX1_waits_19 rfl
  replace h := thT_r h
  refine V_callV1 (ci := 0) (N := 18) (T := TX1) (As := [vI l4, vI 0, vI 1]) (rest := []) (s1 := []) (o := 0) X (con_x_within K hW sz y11 l4 0 1 (.inr y19) hc19) gwX1_within_125 hdV_X1_within ⟨Nat.le_of_ble_eq_true rfl, Nat.le_of_ble_eq_true rfl⟩ rfl (by decide) (hW.at 0 rfl) rfl rfl (Nat.le_of_ble_eq_true rfl) ⟨Nat.zero_le _, Nat.zero_le _⟩ dX1_waits_19 rfl rfl ?_
  refine V_aload_n X dX1_waits_22 0 rfl ?_
  refine V_iload_n X dX1_waits_23 1 rfl ?_
  refine V_iload_n X dX1_waits_24 2 rfl ?_
  refine V_iload_n X dX1_waits_25 3 rfl ?_
  obtain ⟨c26, hc26, h⟩ := bind_some_eq h
  refine V_callV (ci := 0) (N := 18) (T := TX1) (As := [vI l1, vI l2, vI l3]) (rest := []) (s1 := [vL c26]) (o := 0) X (con_x_meanOf K hW N y19 l1 l2 l3 c26 hc26) gwX1_meanOf_372 hdV_X1_meanOf ⟨Nat.le_of_ble_eq_true rfl, Nat.le_of_ble_eq_true rfl⟩ rfl (by decide) (hW.at 0 rfl) rfl rfl (Nat.le_of_ble_eq_true rfl) ⟨Nat.zero_le _, Nat.zero_le _⟩ dX1_waits_26 rfl rfl ?_
  refine V_bipush X dX1_waits_29 (by decide) ?_
  refine V_bipush X dX1_waits_31 (by decide) ?_
  obtain ⟨c33, hc33, h⟩ := bind_some_eq h
  refine V_callS (As := [vI 16, vI 8]) (rest := [vL c26]) (s1 := [vL c33, vL c26]) X (con_x_power K hW N y19 16 8 c33 hc33) gwX1_power_356 hdS_X1_power ⟨Nat.le_of_ble_eq_true rfl, Nat.le_of_ble_eq_true rfl⟩ rfl rfl (Nat.le_of_ble_eq_true rfl) ⟨Nat.zero_le _, Nat.zero_le _⟩ dX1_waits_33 rfl rfl ?_
  refine V_iload X dX1_waits_36 4 rfl ?_
  obtain ⟨c38, hc38, h⟩ := bind_some_eq h
  refine V_callS (As := [vL c26, vL c33, vI l4]) (rest := []) (s1 := [vL c38]) X (con_x_part K hW N y19 c26 c33 l4 c38 hc38) gwX1_part_363 hdS_X1_part ⟨Nat.le_of_ble_eq_true rfl, Nat.le_of_ble_eq_true rfl⟩ rfl rfl (Nat.le_of_ble_eq_true rfl) ⟨Nat.zero_le _, Nat.zero_le _⟩ dX1_waits_38 rfl rfl ?_
  have hr := Option.some.inj h
  subst hr
  exact V_end_l hX rfl dX1_waits_41
set_option maxHeartbeats 4000000 in
theorem con_x_await (K : Nat → Nat) (hW : WFK K) (N : Nat) (sz : Nat) (g : GS) (l1 : Int) (l2 : Int) (r : ((Nat × GS) ⊕ (Int × GS))) (h : x_await N K g l1 l2 = some r) : ConX sz yX1_await cX1_await 5 (some .int) 9 205 K (fun b => [.ref (b + 0), vI l1, vI l2]) g (fun r => ((fun _ => some (vI r.1)), r.2)) r := by
  refine ConX.of RX1 (by decide) rfl (fun b => Nat.le_of_ble_eq_true rfl) (fun x hX => ?_)
  have X := hX.ok
  have LL11 : ∀ (g : GS) (l1 : Int) (l2 : Int) (n : Nat) (s : (Int × Int)) (e : ((Nat × GS) ⊕ (Int × GS))), loopN (fun s => x_await_b11 N K g l1 l2 s.1 s.2) n s = some e → (e = r) → V x 5 K 0 0 sz g 11 [(0, .ref (xb x + 0)), (1, vI l1), (2, vI l2), (3, vI s.1), (4, vI s.2)] [] := by
    intro g l1 l2 n s e
    refine loop_walk (P := fun s => V x 5 K 0 0 sz g 11 [(0, .ref (xb x + 0)), (1, vI l1), (2, vI l2), (3, vI s.1), (4, vI s.2)] []) (E := fun e => e = r) ?_ n s e
    clear e s n
    rintro ⟨l3, l4⟩ q11 h hc11 he11
    replace h : x_await_b11 N K g l1 l2 l3 l4 = some q11 := h
    unfold x_await_b11 at h
    show V x 5 K 0 0 sz g 11 [(0, .ref (xb x + 0)), (1, vI l1), (2, vI l2), (3, vI l3), (4, vI l4)] []
    refine V_iload X dX1_await_11 4 rfl ?_
    refine V_bipush X dX1_await_13 (by decide) ?_
    refine V_icmp_gt (tgt := 46) X dX1_await_15 (by decide) h (fun h => ?_) (fun h => ?_)
    · obtain ⟨e1, h, e1q⟩ := outR_some h
      replace h := h.trans (congrArg some (he11 _ e1q))
      refine V_iload_n X dX1_await_46 3 rfl ?_
      have hr := Option.some.inj h
      subst hr
      exact V_end_i hX rfl dX1_await_47
    · refine V_aload_n X dX1_await_18 0 rfl ?_
      refine V_iload X dX1_await_19 4 rfl ?_
      refine V_iload_n X dX1_await_21 1 rfl ?_
      refine V_iload_n X dX1_await_22 2 rfl ?_
      obtain ⟨c23, hc23, h⟩ := bind_some_eq h
      refine V_callV (ci := 0) (N := 18) (T := TX1) (As := [vI l4, vI l1, vI l2]) (rest := []) (s1 := [vL c23]) (o := 0) X (con_x_meanOf K hW N g l4 l1 l2 c23 hc23) gwX1_meanOf_372 hdV_X1_meanOf ⟨Nat.le_of_ble_eq_true rfl, Nat.le_of_ble_eq_true rfl⟩ rfl (by decide) (hW.at 0 rfl) rfl rfl (Nat.le_of_ble_eq_true rfl) ⟨Nat.zero_le _, Nat.zero_le _⟩ dX1_await_23 rfl rfl ?_
      refine V_aload_n X dX1_await_26 0 rfl ?_
      refine V_iload_n X dX1_await_27 3 rfl ?_
      refine V_iload_n X dX1_await_28 1 rfl ?_
      refine V_iload_n X dX1_await_29 2 rfl ?_
      obtain ⟨c30, hc30, h⟩ := bind_some_eq h
      refine V_callV (ci := 0) (N := 18) (T := TX1) (As := [vI l3, vI l1, vI l2]) (rest := [vL c23]) (s1 := [vL c30, vL c23]) (o := 0) X (con_x_meanOf K hW N g l3 l1 l2 c30 hc30) gwX1_meanOf_372 hdV_X1_meanOf ⟨Nat.le_of_ble_eq_true rfl, Nat.le_of_ble_eq_true rfl⟩ rfl (by decide) (hW.at 0 rfl) rfl rfl (Nat.le_of_ble_eq_true rfl) ⟨Nat.zero_le _, Nat.zero_le _⟩ dX1_await_30 rfl rfl ?_
      refine V_lcmp X dX1_await_33 ?_
      refine V_if_ge (tgt := 40) X dX1_await_34 (by decide) h (fun h => ?_) (fun h => ?_)
      · refine V_iinc X dX1_await_40 4 rfl (by decide) (L' := [(4, vI (l4 + 1)), (0, .ref (xb x + 0)), (1, vI l1), (2, vI l2), (3, vI l3)]) rfl ?_
        refine V_goto (tgt := 11) X dX1_await_43 (by decide) ?_
        exact V_sub [1, 2, 3, 4, 0] rfl (hc11 _ (Option.some.inj h).symm)
      · refine V_iload X dX1_await_37 4 rfl ?_
        refine V_istore_n X dX1_await_39 (by decide) (L' := [(3, vI l4), (0, .ref (xb x + 0)), (1, vI l1), (2, vI l2), (4, vI l4)]) rfl ?_
        refine V_iinc X dX1_await_40 4 rfl (by decide) (L' := [(4, vI (l4 + 1)), (3, vI l4), (0, .ref (xb x + 0)), (1, vI l1), (2, vI l2)]) rfl ?_
        refine V_goto (tgt := 11) X dX1_await_43 (by decide) ?_
        exact V_sub [2, 3, 4, 1, 0] rfl (hc11 _ (Option.some.inj h).symm)
  unfold x_await at h
  show V x 5 K 0 0 sz g 0 [(0, .ref (xb x + 0)), (1, vI l1), (2, vI l2)] []
  refine V_aload_n X dX1_await_0 0 rfl ?_
  refine V_iload_n X dX1_await_1 1 rfl ?_
  refine V_iload_n X dX1_await_2 2 rfl ?_
  obtain ⟨c3, hc3, h⟩ := bind_some_eq h
  rcases c3 with x3 | y3
  · replace h := thT_l h
    have hr := Option.some.inj h
    subst hr
    exact V_callVT (ci := 0) (N := 18) (T := TX1) (As := [vI l1, vI l2]) (rest := []) (o := 0) hX (con_x_waiting K hW sz g l1 l2 (.inl x3) hc3) gwX1_waiting_369 hdV_X1_waiting ⟨Nat.le_of_ble_eq_true rfl, Nat.le_of_ble_eq_true rfl⟩ rfl (by decide) (hW.at 0 rfl) rfl rfl (Nat.le_of_ble_eq_true rfl) dX1_await_3 rfl
  replace h := thT_r h
  refine V_callV1 (ci := 0) (N := 18) (T := TX1) (As := [vI l1, vI l2]) (rest := []) (s1 := []) (o := 0) X (con_x_waiting K hW sz g l1 l2 (.inr y3) hc3) gwX1_waiting_369 hdV_X1_waiting ⟨Nat.le_of_ble_eq_true rfl, Nat.le_of_ble_eq_true rfl⟩ rfl (by decide) (hW.at 0 rfl) rfl rfl (Nat.le_of_ble_eq_true rfl) ⟨Nat.zero_le _, Nat.zero_le _⟩ dX1_await_3 rfl rfl ?_
  refine V_iconst X dX1_await_6 ?_
  refine V_istore_n X dX1_await_7 (by decide) (L' := [(3, vI 0), (0, .ref (xb x + 0)), (1, vI l1), (2, vI l2)]) rfl ?_
  refine V_iconst X dX1_await_8 ?_
  refine V_istore X dX1_await_9 (by decide) (L' := [(4, vI 1), (3, vI 0), (0, .ref (xb x + 0)), (1, vI l1), (2, vI l2)]) rfl ?_
  exact V_sub [2, 3, 4, 1, 0] rfl (LL11 y3 l1 l2 N (0, 1) _ h rfl)
set_option maxHeartbeats 4000000 in
theorem con_x_cross (K : Nat → Nat) (hW : WFK K) (N : Nat) (sz : Nat) (g : GS) (l1 : Int) (l2 : Int) (r : ((Nat × GS) ⊕ (Int × GS))) (h : x_cross N g l1 l2 = some r) : ConX sz yX1_cross cX1_cross 3 (some .int) 66 2013 K (fun b => [.ref (b + 0), vI l1, vI l2]) g (fun r => ((fun _ => some (vI r.1)), r.2)) r := by
  refine ConX.of RX1 (by decide) rfl (fun b => Nat.le_of_ble_eq_true rfl) (fun x hX => ?_)
  have X := hX.ok
  unfold x_cross at h
  show V x 3 K 0 0 sz g 0 [(0, .ref (xb x + 0)), (1, vI l1), (2, vI l2)] []
  refine V_aload_n X dX1_cross_0 0 rfl ?_
  refine V_iload_n X dX1_cross_1 1 rfl ?_
  refine V_iconst X dX1_cross_2 ?_
  refine V_bipush X dX1_cross_3 (by decide) ?_
  obtain ⟨c5, hc5, h⟩ := bind_some_eq h
  rcases c5 with x5 | y5
  · replace h := thT_l h
    have hr := Option.some.inj h
    subst hr
    exact V_callVT (ci := 0) (N := 18) (T := TX1) (As := [vI l1, vI 3, vI 6]) (rest := []) (o := 0) hX (con_x_within K hW sz g l1 3 6 (.inl x5) hc5) gwX1_within_125 hdV_X1_within ⟨Nat.le_of_ble_eq_true rfl, Nat.le_of_ble_eq_true rfl⟩ rfl (by decide) (hW.at 0 rfl) rfl rfl (Nat.le_of_ble_eq_true rfl) dX1_cross_5 rfl
  replace h := thT_r h
  refine V_callV1 (ci := 0) (N := 18) (T := TX1) (As := [vI l1, vI 3, vI 6]) (rest := []) (s1 := []) (o := 0) X (con_x_within K hW sz g l1 3 6 (.inr y5) hc5) gwX1_within_125 hdV_X1_within ⟨Nat.le_of_ble_eq_true rfl, Nat.le_of_ble_eq_true rfl⟩ rfl (by decide) (hW.at 0 rfl) rfl rfl (Nat.le_of_ble_eq_true rfl) ⟨Nat.zero_le _, Nat.zero_le _⟩ dX1_cross_5 rfl rfl ?_
  refine V_aload_n X dX1_cross_8 0 rfl ?_
  refine V_iload_n X dX1_cross_9 2 rfl ?_
  refine V_iconst X dX1_cross_10 ?_
  refine V_iconst X dX1_cross_11 ?_
  obtain ⟨c12, hc12, h⟩ := bind_some_eq h
  rcases c12 with x12 | y12
  · replace h := thT_l h
    have hr := Option.some.inj h
    subst hr
    exact V_callVT (ci := 0) (N := 18) (T := TX1) (As := [vI l2, vI 0, vI 1]) (rest := []) (o := 0) hX (con_x_within K hW sz y5 l2 0 1 (.inl x12) hc12) gwX1_within_125 hdV_X1_within ⟨Nat.le_of_ble_eq_true rfl, Nat.le_of_ble_eq_true rfl⟩ rfl (by decide) (hW.at 0 rfl) rfl rfl (Nat.le_of_ble_eq_true rfl) dX1_cross_12 rfl
  replace h := thT_r h
  refine V_callV1 (ci := 0) (N := 18) (T := TX1) (As := [vI l2, vI 0, vI 1]) (rest := []) (s1 := []) (o := 0) X (con_x_within K hW sz y5 l2 0 1 (.inr y12) hc12) gwX1_within_125 hdV_X1_within ⟨Nat.le_of_ble_eq_true rfl, Nat.le_of_ble_eq_true rfl⟩ rfl (by decide) (hW.at 0 rfl) rfl rfl (Nat.le_of_ble_eq_true rfl) ⟨Nat.zero_le _, Nat.zero_le _⟩ dX1_cross_12 rfl rfl ?_
  refine V_aload_n X dX1_cross_15 0 rfl ?_
  refine V_get (ci := 0) (N := 18) (C := RX1) (T := TX1) (o := 0) (j := 10) X rfl in_X1 (by decide) (hW.at 0 rfl) (by decide) q487 (fv_1 (i := 76) rfl rfl) dX1_cross_16 ?_
  refine V_iload_n X dX1_cross_19 1 rfl ?_
  obtain ⟨c20, hc20, h⟩ := bind_some_eq h
  refine V_callV (ci := 6) (N := 4) (T := TX7) (As := [vI l1]) (rest := []) (s1 := []) (o := 76) X (con_xRing_finds K hW N y12 l1 c20 hc20) gwX1_finds_376 hdV_X7_finds ⟨Nat.le_of_ble_eq_true rfl, Nat.le_of_ble_eq_true rfl⟩ rfl (by decide) (hW.at 76 rfl) rfl rfl (Nat.le_of_ble_eq_true rfl) ⟨Nat.zero_le _, Nat.zero_le _⟩ dX1_cross_20 rfl rfl ?_
  refine V_iload_n X dX1_cross_23 2 rfl ?_
  refine V_if_ne (tgt := 37) X dX1_cross_24 (by decide) h (fun h => ?_) (fun h => ?_)
  · refine V_aload_n X dX1_cross_37 0 rfl ?_
    refine V_get (ci := 0) (N := 18) (C := RX1) (T := TX1) (o := 0) (j := 10) X rfl in_X1 (by decide) (hW.at 0 rfl) (by decide) q487 (fv_1 (i := 76) rfl rfl) dX1_cross_38 ?_
    refine V_getN (ci := 6) (N := 4) (C := RX7) (T := TX7) (o := 76) (j := 3) X rfl in_X7 (by decide) (hW.at 76 rfl) (by decide) q316 (fv_0 rfl) dX1_cross_41 ?_
    have hr := Option.some.inj h
    subst hr
    exact V_end_i hX rfl dX1_cross_44
  · refine V_aload_n X dX1_cross_27 0 rfl ?_
    refine V_get (ci := 0) (N := 18) (C := RX1) (T := TX1) (o := 0) (j := 10) X rfl in_X1 (by decide) (hW.at 0 rfl) (by decide) q487 (fv_1 (i := 76) rfl rfl) dX1_cross_28 ?_
    refine V_getN (ci := 6) (N := 4) (C := RX7) (T := TX7) (o := 76) (j := 2) X rfl in_X7 (by decide) (hW.at 76 rfl) (by decide) q314 (fv_0 rfl) dX1_cross_31 ?_
    refine V_goto (tgt := 44) X dX1_cross_34 (by decide) ?_
    have hr := Option.some.inj h
    subst hr
    exact V_end_i hX rfl dX1_cross_44
set_option maxHeartbeats 4000000 in
theorem con_x_crooked (K : Nat → Nat) (hW : WFK K) (N : Nat) (sz : Nat) (g : GS) (l1 : Int) (r : ((Nat × GS) ⊕ (Int × GS))) (h : x_crooked N g l1 = some r) : ConX sz yX1_crooked cX1_crooked 8 (some .int) 8 183 K (fun b => [.ref (b + 0), vI l1]) g (fun r => ((fun _ => some (vI r.1)), r.2)) r := by
  refine ConX.of RX1 (by decide) rfl (fun b => Nat.le_of_ble_eq_true rfl) (fun x hX => ?_)
  have X := hX.ok
  have LL48 : ∀ (l2 : Int) (n : Nat) (s : (GS × Int × Int × Int × Int)) (e : ((Nat × GS) ⊕ (Int × GS))), loopN (fun s => x_crooked_b48 N l2 s.1 s.2.1 s.2.2.1 s.2.2.2.1 s.2.2.2.2) n s = some e → (e = r) → V x 8 K 0 0 sz s.1 48 [(0, .ref (xb x + 0)), (2, vI l2), (3, vI s.2.1), (4, vI s.2.2.1), (5, vI s.2.2.2.1), (6, vI s.2.2.2.2)] [] := by
    intro l2 n s e
    refine loop_walk (P := fun s => V x 8 K 0 0 sz s.1 48 [(0, .ref (xb x + 0)), (2, vI l2), (3, vI s.2.1), (4, vI s.2.2.1), (5, vI s.2.2.2.1), (6, vI s.2.2.2.2)] []) (E := fun e => e = r) ?_ n s e
    clear e s n
    rintro ⟨g, l3, l4, l5, l6⟩ q48 h hc48 he48
    replace h : x_crooked_b48 N l2 g l3 l4 l5 l6 = some q48 := h
    have J110 : ∀ (g : GS) (l3 : Int) (l4 : Int) (l6 : Int) (l7 : Int), x_crooked_j110 N g l2 l3 l4 l6 l7 = some q48 → V x 8 K 0 0 sz g 110 [(0, .ref (xb x + 0)), (2, vI l2), (3, vI l3), (4, vI l4), (6, vI l6), (7, vI l7)] [] := by
      intro g l3 l4 l6 l7 h
      unfold x_crooked_j110 at h
      refine V_iload X dX1_crooked_110 5 rfl ?_
      refine V_istore X dX1_crooked_112 (by decide) (L' := [(5, vI l7), (0, .ref (xb x + 0)), (2, vI l2), (3, vI l3), (4, vI l4), (6, vI l6), (7, vI l7)]) rfl ?_
      refine V_iload X dX1_crooked_114 5 rfl ?_
      refine V_bipush X dX1_crooked_116 (by decide) ?_
      refine V_idivK X dX1_crooked_118 (by decide) ?_
      refine V_istore X dX1_crooked_119 (by decide) (L' := [(6, vI (i_div l6 10)), (5, vI l7), (0, .ref (xb x + 0)), (2, vI l2), (3, vI l3), (4, vI l4), (7, vI l7)]) rfl ?_
      refine V_goto (tgt := 48) X dX1_crooked_121 (by decide) ?_
      exact V_sub [2, 3, 4, 5, 1, 0] rfl (hc48 _ (Option.some.inj h).symm)
    unfold x_crooked_b48 at h
    show V x 8 K 0 0 sz g 48 [(0, .ref (xb x + 0)), (2, vI l2), (3, vI l3), (4, vI l4), (5, vI l5), (6, vI l6)] []
    refine V_iload X dX1_crooked_48 5 rfl ?_
    refine V_if_le (tgt := 124) X dX1_crooked_50 (by decide) h (fun h => ?_) (fun h => ?_)
    · obtain ⟨e1, h, e1q⟩ := outR_some h
      replace h := h.trans (congrArg some (he48 _ e1q))
      refine V_iload X dX1_crooked_124 3 rfl ?_
      have hr := Option.some.inj h
      subst hr
      exact V_end_i hX rfl dX1_crooked_126
    · refine V_iload X dX1_crooked_53 5 rfl ?_
      refine V_bipush X dX1_crooked_55 (by decide) ?_
      refine V_iremK X dX1_crooked_57 (by decide) ?_
      refine V_iconst X dX1_crooked_58 ?_
      refine V_isub X dX1_crooked_59 ?_
      refine V_istore X dX1_crooked_60 (by decide) (L' := [(7, vI ((i_rem l6 10) - 1)), (0, .ref (xb x + 0)), (2, vI l2), (3, vI l3), (4, vI l4), (5, vI l5), (6, vI l6)]) rfl ?_
      refine V_aload_n X dX1_crooked_62 1 rfl ?_
      refine V_iload X dX1_crooked_63 0 rfl ?_
      refine V_iconst X dX1_crooked_65 ?_
      refine V_iload_n X dX1_crooked_66 2 rfl ?_
      refine V_iconst X dX1_crooked_67 ?_
      refine V_isub X dX1_crooked_68 ?_
      obtain ⟨c69, hc69, h⟩ := bind_some_eq h
      rcases c69 with x69 | y69
      · replace h := thT_l h
        obtain ⟨e2, h, e2q⟩ := outR_some h
        replace h := h.trans (congrArg some (he48 _ e2q))
        have hr := Option.some.inj h
        subst hr
        exact V_callVT (ci := 0) (N := 18) (T := TX1) (As := [vI ((i_rem l6 10) - 1), vI 0, vI (l2 - 1)]) (rest := []) (o := 0) hX (con_x_within K hW sz g ((i_rem l6 10) - 1) 0 (l2 - 1) (.inl x69) hc69) gwX1_within_125 hdV_X1_within ⟨Nat.le_of_ble_eq_true rfl, Nat.le_of_ble_eq_true rfl⟩ rfl (by decide) (hW.at 0 rfl) rfl rfl (Nat.le_of_ble_eq_true rfl) dX1_crooked_69 rfl
      replace h := thT_r h
      refine V_callV1 (ci := 0) (N := 18) (T := TX1) (As := [vI ((i_rem l6 10) - 1), vI 0, vI (l2 - 1)]) (rest := []) (s1 := []) (o := 0) X (con_x_within K hW sz g ((i_rem l6 10) - 1) 0 (l2 - 1) (.inr y69) hc69) gwX1_within_125 hdV_X1_within ⟨Nat.le_of_ble_eq_true rfl, Nat.le_of_ble_eq_true rfl⟩ rfl (by decide) (hW.at 0 rfl) rfl rfl (Nat.le_of_ble_eq_true rfl) ⟨Nat.zero_le _, Nat.zero_le _⟩ dX1_crooked_69 rfl rfl ?_
      refine V_aload_n X dX1_crooked_72 1 rfl ?_
      refine V_iload_n X dX1_crooked_73 3 rfl ?_
      refine V_iload X dX1_crooked_74 0 rfl ?_
      refine V_ishr X dX1_crooked_76 ?_
      refine V_iconst X dX1_crooked_77 ?_
      refine V_iand X dX1_crooked_78 ?_
      refine V_iconst X dX1_crooked_79 ?_
      refine V_iconst X dX1_crooked_80 ?_
      obtain ⟨c81, hc81, h⟩ := bind_some_eq h
      rcases c81 with x81 | y81
      · replace h := thT_l h
        obtain ⟨e3, h, e3q⟩ := outR_some h
        replace h := h.trans (congrArg some (he48 _ e3q))
        have hr := Option.some.inj h
        subst hr
        exact V_callVT (ci := 0) (N := 18) (T := TX1) (As := [vI (i_and (i_shr l3 ((i_rem l6 10) - 1)) 1), vI 0, vI 0]) (rest := []) (o := 0) hX (con_x_within K hW sz y69 (i_and (i_shr l3 ((i_rem l6 10) - 1)) 1) 0 0 (.inl x81) hc81) gwX1_within_125 hdV_X1_within ⟨Nat.le_of_ble_eq_true rfl, Nat.le_of_ble_eq_true rfl⟩ rfl (by decide) (hW.at 0 rfl) rfl rfl (Nat.le_of_ble_eq_true rfl) dX1_crooked_81 rfl
      replace h := thT_r h
      refine V_callV1 (ci := 0) (N := 18) (T := TX1) (As := [vI (i_and (i_shr l3 ((i_rem l6 10) - 1)) 1), vI 0, vI 0]) (rest := []) (s1 := []) (o := 0) X (con_x_within K hW sz y69 (i_and (i_shr l3 ((i_rem l6 10) - 1)) 1) 0 0 (.inr y81) hc81) gwX1_within_125 hdV_X1_within ⟨Nat.le_of_ble_eq_true rfl, Nat.le_of_ble_eq_true rfl⟩ rfl (by decide) (hW.at 0 rfl) rfl rfl (Nat.le_of_ble_eq_true rfl) ⟨Nat.zero_le _, Nat.zero_le _⟩ dX1_crooked_81 rfl rfl ?_
      refine V_iload_n X dX1_crooked_84 3 rfl ?_
      refine V_iconst X dX1_crooked_85 ?_
      refine V_iload X dX1_crooked_86 0 rfl ?_
      refine V_ishl X dX1_crooked_88 ?_
      refine V_ior X dX1_crooked_89 ?_
      refine V_istore_n X dX1_crooked_90 (by decide) (L' := [(3, vI (i_or l3 (i_shl 1 ((i_rem l6 10) - 1)))), (7, vI ((i_rem l6 10) - 1)), (0, .ref (xb x + 0)), (2, vI l2), (4, vI l4), (5, vI l5), (6, vI l6)]) rfl ?_
      refine V_iload X dX1_crooked_91 5 rfl ?_
      refine V_iconst X dX1_crooked_93 ?_
      refine V_icmp_eq (tgt := 110) X dX1_crooked_94 (by decide) h (fun h => ?_) (fun h => ?_)
      · exact V_sub [2, 3, 0, 4, 6, 1] rfl (J110 _ _ _ _ _ h)
      · refine V_iload X dX1_crooked_97 4 rfl ?_
        refine V_iload_n X dX1_crooked_99 3 rfl ?_
        refine V_iload X dX1_crooked_100 5 rfl ?_
        refine V_iload X dX1_crooked_102 1 rfl ?_
        obtain ⟨c104, hc104, h⟩ := bind_some_eq h
        refine V_callS (As := [vI l2, vI l5, vI ((i_rem l6 10) - 1)]) (rest := [vI l4]) (s1 := [vI c104, vI l4]) X (con_xRing_lacks K hW y81 l2 l5 ((i_rem l6 10) - 1) c104 hc104) gwX1_lacks_384 hdS_X7_lacks ⟨Nat.le_of_ble_eq_true rfl, Nat.le_of_ble_eq_true rfl⟩ rfl rfl (Nat.le_of_ble_eq_true rfl) ⟨Nat.zero_le _, Nat.zero_le _⟩ dX1_crooked_104 rfl rfl ?_
        refine V_iadd X dX1_crooked_107 ?_
        refine V_istore X dX1_crooked_108 (by decide) (L' := [(4, vI (l4 + c104)), (3, vI (i_or l3 (i_shl 1 ((i_rem l6 10) - 1)))), (7, vI ((i_rem l6 10) - 1)), (0, .ref (xb x + 0)), (2, vI l2), (5, vI l5), (6, vI l6)]) rfl ?_
        exact V_sub [3, 4, 1, 0, 6, 2] rfl (J110 _ _ _ _ _ h)
  have J37 : ∀ (g : GS) (l1 : Int) (l2 : Int) (l3 : Int) (l4 : Int) (l5 : Int), x_crooked_j37 N g l1 l2 l3 l4 l5 = some r → V x 8 K 0 0 sz g 37 [(0, .ref (xb x + 0)), (1, vI l1), (2, vI l2), (3, vI l3), (4, vI l4), (5, vI l5)] [] := by
    intro g l1 l2 l3 l4 l5 h
    unfold x_crooked_j37 at h
    refine V_aload_n X dX1_crooked_37 0 rfl ?_
    refine V_iload_n X dX1_crooked_38 2 rfl ?_
    refine V_iconst X dX1_crooked_39 ?_
    refine V_bipush X dX1_crooked_40 (by decide) ?_
    obtain ⟨c42, hc42, h⟩ := bind_some_eq h
    rcases c42 with x42 | y42
    · replace h := thT_l h
      have hr := Option.some.inj h
      subst hr
      exact V_callVT (ci := 0) (N := 18) (T := TX1) (As := [vI l2, vI 3, vI 6]) (rest := []) (o := 0) hX (con_x_within K hW sz g l2 3 6 (.inl x42) hc42) gwX1_within_125 hdV_X1_within ⟨Nat.le_of_ble_eq_true rfl, Nat.le_of_ble_eq_true rfl⟩ rfl (by decide) (hW.at 0 rfl) rfl rfl (Nat.le_of_ble_eq_true rfl) dX1_crooked_42 rfl
    replace h := thT_r h
    refine V_callV1 (ci := 0) (N := 18) (T := TX1) (As := [vI l2, vI 3, vI 6]) (rest := []) (s1 := []) (o := 0) X (con_x_within K hW sz g l2 3 6 (.inr y42) hc42) gwX1_within_125 hdV_X1_within ⟨Nat.le_of_ble_eq_true rfl, Nat.le_of_ble_eq_true rfl⟩ rfl (by decide) (hW.at 0 rfl) rfl rfl (Nat.le_of_ble_eq_true rfl) ⟨Nat.zero_le _, Nat.zero_le _⟩ dX1_crooked_42 rfl rfl ?_
    refine V_iload_n X dX1_crooked_45 1 rfl ?_
    refine V_istore X dX1_crooked_46 (by decide) (L' := [(6, vI l1), (0, .ref (xb x + 0)), (1, vI l1), (2, vI l2), (3, vI l3), (4, vI l4), (5, vI l5)]) rfl ?_
    exact V_sub [1, 3, 4, 5, 6, 0] rfl (LL48 l2 N (y42, l3, l4, l5, l1) _ h rfl)
  have LL13 : ∀ (g : GS) (l1 : Int) (l3 : Int) (l4 : Int) (l5 : Int) (n : Nat) (s : (Int × Int)) (e : (Int)), loopN (fun s => x_crooked_b13 N g l1 l3 l4 l5 s.1 s.2) n s = some e → V x 8 K 0 0 sz g 37 [(0, .ref (xb x + 0)), (1, vI l1), (2, vI e), (3, vI l3), (4, vI l4), (5, vI l5)] [] → V x 8 K 0 0 sz g 13 [(0, .ref (xb x + 0)), (1, vI l1), (2, vI s.1), (3, vI l3), (4, vI l4), (5, vI l5), (6, vI s.2)] [] := by
    intro g l1 l3 l4 l5 n s e
    refine loop_walk (P := fun s => V x 8 K 0 0 sz g 13 [(0, .ref (xb x + 0)), (1, vI l1), (2, vI s.1), (3, vI l3), (4, vI l4), (5, vI l5), (6, vI s.2)] []) (E := fun e => V x 8 K 0 0 sz g 37 [(0, .ref (xb x + 0)), (1, vI l1), (2, vI e), (3, vI l3), (4, vI l4), (5, vI l5)] []) ?_ n s e
    clear e s n
    rintro ⟨l2, l6⟩ q13 h hc13 he13
    replace h : x_crooked_b13 N g l1 l3 l4 l5 l2 l6 = some q13 := h
    unfold x_crooked_b13 at h
    show V x 8 K 0 0 sz g 13 [(0, .ref (xb x + 0)), (1, vI l1), (2, vI l2), (3, vI l3), (4, vI l4), (5, vI l5), (6, vI l6)] []
    refine V_iload X dX1_crooked_13 6 rfl ?_
    refine V_if_le (tgt := 37) X dX1_crooked_15 (by decide) h (fun h => ?_) (fun h => ?_)
    · exact V_sub [0, 1, 2, 3, 4, 5] rfl (he13 _ (Option.some.inj h).symm)
    · refine V_iload_n X dX1_crooked_18 2 rfl ?_
      refine V_bipush X dX1_crooked_19 (by decide) ?_
      refine V_icmp_ge (tgt := 37) X dX1_crooked_21 (by decide) h (fun h => ?_) (fun h => ?_)
      · exact V_sub [0, 1, 2, 3, 4, 5] rfl (he13 _ (Option.some.inj h).symm)
      · refine V_iinc X dX1_crooked_24 2 rfl (by decide) (L' := [(2, vI (l2 + 1)), (0, .ref (xb x + 0)), (1, vI l1), (3, vI l3), (4, vI l4), (5, vI l5), (6, vI l6)]) rfl ?_
        refine V_iload X dX1_crooked_27 6 rfl ?_
        refine V_bipush X dX1_crooked_29 (by decide) ?_
        refine V_idivK X dX1_crooked_31 (by decide) ?_
        refine V_istore X dX1_crooked_32 (by decide) (L' := [(6, vI (i_div l6 10)), (2, vI (l2 + 1)), (0, .ref (xb x + 0)), (1, vI l1), (3, vI l3), (4, vI l4), (5, vI l5)]) rfl ?_
        refine V_goto (tgt := 13) X dX1_crooked_34 (by decide) ?_
        exact V_sub [2, 3, 1, 4, 5, 6, 0] rfl (hc13 _ (Option.some.inj h).symm)
  unfold x_crooked at h
  show V x 8 K 0 0 sz g 0 [(0, .ref (xb x + 0)), (1, vI l1)] []
  refine V_iconst X dX1_crooked_0 ?_
  refine V_istore_n X dX1_crooked_1 (by decide) (L' := [(2, vI 0), (0, .ref (xb x + 0)), (1, vI l1)]) rfl ?_
  refine V_iconst X dX1_crooked_2 ?_
  refine V_istore_n X dX1_crooked_3 (by decide) (L' := [(3, vI 0), (2, vI 0), (0, .ref (xb x + 0)), (1, vI l1)]) rfl ?_
  refine V_iconst X dX1_crooked_4 ?_
  refine V_istore X dX1_crooked_5 (by decide) (L' := [(4, vI 0), (3, vI 0), (2, vI 0), (0, .ref (xb x + 0)), (1, vI l1)]) rfl ?_
  refine V_iconst X dX1_crooked_7 ?_
  refine V_istore X dX1_crooked_8 (by decide) (L' := [(5, vI (-1)), (4, vI 0), (3, vI 0), (2, vI 0), (0, .ref (xb x + 0)), (1, vI l1)]) rfl ?_
  refine V_iload_n X dX1_crooked_10 5 rfl ?_
  refine V_istore X dX1_crooked_11 (by decide) (L' := [(6, vI l1), (5, vI (-1)), (4, vI 0), (3, vI 0), (2, vI 0), (0, .ref (xb x + 0)), (1, vI l1)]) rfl ?_
  obtain ⟨t4, t4q, h⟩ := bind_some_eq h
  refine V_sub [5, 6, 4, 3, 2, 1, 0] rfl (LL13 g l1 0 0 (-1) N (0, l1) _ t4q ?_)
  exact V_sub [0, 1, 2, 3, 4, 5] rfl (J37 _ _ _ _ _ _ h)
set_option maxHeartbeats 4000000 in
theorem con_x_share (K : Nat → Nat) (hW : WFK K) (sz : Nat) (g : GS) (l1 : Int) (r : ((Nat × GS) ⊕ (Int × GS))) (h : x_share g l1 = some r) : ConX sz yX1_share cX1_share 2 (some .int) 8 183 K (fun b => [.ref (b + 0), vI l1]) g (fun r => ((fun _ => some (vI r.1)), r.2)) r := by
  refine ConX.of RX1 (by decide) rfl (fun b => Nat.le_of_ble_eq_true rfl) (fun x hX => ?_)
  have X := hX.ok
  unfold x_share at h
  show V x 2 K 0 0 sz g 0 [(0, .ref (xb x + 0)), (1, vI l1)] []
  refine V_aload_n X dX1_share_0 0 rfl ?_
  refine V_iload_n X dX1_share_1 1 rfl ?_
  refine V_iconst X dX1_share_2 ?_
  refine V_bipush X dX1_share_3 (by decide) ?_
  obtain ⟨c5, hc5, h⟩ := bind_some_eq h
  rcases c5 with x5 | y5
  · replace h := thT_l h
    have hr := Option.some.inj h
    subst hr
    exact V_callVT (ci := 0) (N := 18) (T := TX1) (As := [vI l1, vI 0, vI 12]) (rest := []) (o := 0) hX (con_x_within K hW sz g l1 0 12 (.inl x5) hc5) gwX1_within_125 hdV_X1_within ⟨Nat.le_of_ble_eq_true rfl, Nat.le_of_ble_eq_true rfl⟩ rfl (by decide) (hW.at 0 rfl) rfl rfl (Nat.le_of_ble_eq_true rfl) dX1_share_5 rfl
  replace h := thT_r h
  refine V_callV1 (ci := 0) (N := 18) (T := TX1) (As := [vI l1, vI 0, vI 12]) (rest := []) (s1 := []) (o := 0) X (con_x_within K hW sz g l1 0 12 (.inr y5) hc5) gwX1_within_125 hdV_X1_within ⟨Nat.le_of_ble_eq_true rfl, Nat.le_of_ble_eq_true rfl⟩ rfl (by decide) (hW.at 0 rfl) rfl rfl (Nat.le_of_ble_eq_true rfl) ⟨Nat.zero_le _, Nat.zero_le _⟩ dX1_share_5 rfl rfl ?_
  refine V_bipush X dX1_share_8 (by decide) ?_
  refine V_iload_n X dX1_share_10 1 rfl ?_
  refine V_isub X dX1_share_11 ?_
  refine V_iconst X dX1_share_12 ?_
  refine V_idivK X dX1_share_13 (by decide) ?_
  have hr := Option.some.inj h
  subst hr
  exact V_end_i hX rfl dX1_share_14
set_option maxHeartbeats 4000000 in
theorem con_x_drive (K : Nat → Nat) (hW : WFK K) (N : Nat) (sz : Nat) (g : GS) (l1 : Int) (r : ((Nat × GS) ⊕ (Int × GS))) (h : x_drive N K g l1 = some r) : ConX sz yX1_drive cX1_drive 2 (some .int) 8 183 K (fun b => [.ref (b + 0), vI l1]) g (fun r => ((fun _ => some (vI r.1)), r.2)) r := by
  refine ConX.of RX1 (by decide) rfl (fun b => Nat.le_of_ble_eq_true rfl) (fun x hX => ?_)
  have X := hX.ok
  unfold x_drive at h
  show V x 2 K 0 0 sz g 0 [(0, .ref (xb x + 0)), (1, vI l1)] []
  refine V_aload_n X dX1_drive_0 0 rfl ?_
  refine V_iload_n X dX1_drive_1 1 rfl ?_
  refine V_iconst X dX1_drive_2 ?_
  refine V_bipush X dX1_drive_3 (by decide) ?_
  obtain ⟨c5, hc5, h⟩ := bind_some_eq h
  rcases c5 with x5 | y5
  · replace h := thT_l h
    have hr := Option.some.inj h
    subst hr
    exact V_callVT (ci := 0) (N := 18) (T := TX1) (As := [vI l1, vI 1, vI 30]) (rest := []) (o := 0) hX (con_x_within K hW sz g l1 1 30 (.inl x5) hc5) gwX1_within_125 hdV_X1_within ⟨Nat.le_of_ble_eq_true rfl, Nat.le_of_ble_eq_true rfl⟩ rfl (by decide) (hW.at 0 rfl) rfl rfl (Nat.le_of_ble_eq_true rfl) dX1_drive_5 rfl
  replace h := thT_r h
  refine V_callV1 (ci := 0) (N := 18) (T := TX1) (As := [vI l1, vI 1, vI 30]) (rest := []) (s1 := []) (o := 0) X (con_x_within K hW sz g l1 1 30 (.inr y5) hc5) gwX1_within_125 hdV_X1_within ⟨Nat.le_of_ble_eq_true rfl, Nat.le_of_ble_eq_true rfl⟩ rfl (by decide) (hW.at 0 rfl) rfl rfl (Nat.le_of_ble_eq_true rfl) ⟨Nat.zero_le _, Nat.zero_le _⟩ dX1_drive_5 rfl rfl ?_
  refine V_aload_n X dX1_drive_8 0 rfl ?_
  refine V_get (ci := 0) (N := 18) (C := RX1) (T := TX1) (o := 0) (j := 11) X rfl in_X1 (by decide) (hW.at 0 rfl) (by decide) q488 (fv_1 (i := 78) rfl rfl) dX1_drive_9 ?_
  refine V_iload_n X dX1_drive_12 1 rfl ?_
  refine V_aload_n X dX1_drive_13 0 rfl ?_
  obtain ⟨i14, hvi14, hki14, h⟩ := rdR_some h
  refine V_get (ci := 0) (N := 18) (C := RX1) (T := TX1) (o := 0) (j := 12) X rfl in_X1 (by decide) (hW.at 0 rfl) (by decide) q489 (fv_3i rfl hvi14) dX1_drive_14 ?_
  refine V_getN (ci := 8) (N := 24) (C := RX9) (T := TX9) (o := i14) (j := 23) X rfl in_X9 (by decide) hki14 (by decide) q427 (fv_0 rfl) dX1_drive_17 ?_
  obtain ⟨c20, hc20, h⟩ := bind_some_eq h
  refine V_callV (ci := 7) (N := 4) (T := TX8) (As := [vI l1, vI (gI y5 823 i14)]) (rest := []) (s1 := []) (o := 78) X (con_xMiles_lays K hW N y5 l1 (gI y5 823 i14) c20 hc20) gwX1_lays_390 hdV_X8_lays ⟨Nat.le_of_ble_eq_true rfl, Nat.le_of_ble_eq_true rfl⟩ rfl (by decide) (hW.at 78 rfl) rfl rfl (Nat.le_of_ble_eq_true rfl) ⟨Nat.zero_le _, Nat.zero_le _⟩ dX1_drive_20 rfl rfl ?_
  refine V_aload_n X dX1_drive_23 0 rfl ?_
  refine V_get (ci := 0) (N := 18) (C := RX1) (T := TX1) (o := 0) (j := 11) X rfl in_X1 (by decide) (hW.at 0 rfl) (by decide) q488 (fv_1 (i := 78) rfl rfl) dX1_drive_24 ?_
  refine V_getN (ci := 7) (N := 4) (C := RX8) (T := TX8) (o := 78) (j := 0) X rfl in_X8 (by decide) (hW.at 78 rfl) (by decide) q333 (fv_1 (i := 79) rfl rfl) dX1_drive_27 ?_
  refine V_aload_n X dX1_drive_30 0 rfl ?_
  obtain ⟨i31, hvi31, hki31, h⟩ := rdR_some h
  refine V_get (ci := 0) (N := 18) (C := RX1) (T := TX1) (o := 0) (j := 12) X rfl in_X1 (by decide) (hW.at 0 rfl) (by decide) q489 (fv_3i rfl hvi31) dX1_drive_31 ?_
  refine V_getN (ci := 8) (N := 24) (C := RX9) (T := TX9) (o := i31) (j := 22) X rfl in_X9 (by decide) hki31 (by decide) q424 (fv_0 rfl) dX1_drive_34 ?_
  refine V_iald X (o := 79) (n := 100) (hW.at 79 rfl) (by decide) dX1_drive_37 h (fun v37 h => ?_)
  have hr := Option.some.inj h
  subst hr
  exact V_end_i hX rfl dX1_drive_38
set_option maxHeartbeats 4000000 in
theorem con_x_pumps (K : Nat → Nat) (hW : WFK K) (N : Nat) (sz : Nat) (g : GS) (l1 : Int) (r : ((Nat × GS) ⊕ (Int × GS))) (h : x_pumps N K g l1 = some r) : ConX sz yX1_pumps cX1_pumps 2 (some .int) 8 183 K (fun b => [.ref (b + 0), vI l1]) g (fun r => ((fun _ => some (vI r.1)), r.2)) r := by
  refine ConX.of RX1 (by decide) rfl (fun b => Nat.le_of_ble_eq_true rfl) (fun x hX => ?_)
  have X := hX.ok
  unfold x_pumps at h
  show V x 2 K 0 0 sz g 0 [(0, .ref (xb x + 0)), (1, vI l1)] []
  refine V_aload_n X dX1_pumps_0 0 rfl ?_
  refine V_iload_n X dX1_pumps_1 1 rfl ?_
  refine V_iconst X dX1_pumps_2 ?_
  refine V_bipush X dX1_pumps_3 (by decide) ?_
  obtain ⟨c5, hc5, h⟩ := bind_some_eq h
  rcases c5 with x5 | y5
  · replace h := thT_l h
    have hr := Option.some.inj h
    subst hr
    exact V_callVT (ci := 0) (N := 18) (T := TX1) (As := [vI l1, vI 1, vI 30]) (rest := []) (o := 0) hX (con_x_within K hW sz g l1 1 30 (.inl x5) hc5) gwX1_within_125 hdV_X1_within ⟨Nat.le_of_ble_eq_true rfl, Nat.le_of_ble_eq_true rfl⟩ rfl (by decide) (hW.at 0 rfl) rfl rfl (Nat.le_of_ble_eq_true rfl) dX1_pumps_5 rfl
  replace h := thT_r h
  refine V_callV1 (ci := 0) (N := 18) (T := TX1) (As := [vI l1, vI 1, vI 30]) (rest := []) (s1 := []) (o := 0) X (con_x_within K hW sz g l1 1 30 (.inr y5) hc5) gwX1_within_125 hdV_X1_within ⟨Nat.le_of_ble_eq_true rfl, Nat.le_of_ble_eq_true rfl⟩ rfl (by decide) (hW.at 0 rfl) rfl rfl (Nat.le_of_ble_eq_true rfl) ⟨Nat.zero_le _, Nat.zero_le _⟩ dX1_pumps_5 rfl rfl ?_
  refine V_aload_n X dX1_pumps_8 0 rfl ?_
  refine V_get (ci := 0) (N := 18) (C := RX1) (T := TX1) (o := 0) (j := 11) X rfl in_X1 (by decide) (hW.at 0 rfl) (by decide) q488 (fv_1 (i := 78) rfl rfl) dX1_pumps_9 ?_
  refine V_iload_n X dX1_pumps_12 1 rfl ?_
  refine V_aload_n X dX1_pumps_13 0 rfl ?_
  obtain ⟨i14, hvi14, hki14, h⟩ := rdR_some h
  refine V_get (ci := 0) (N := 18) (C := RX1) (T := TX1) (o := 0) (j := 12) X rfl in_X1 (by decide) (hW.at 0 rfl) (by decide) q489 (fv_3i rfl hvi14) dX1_pumps_14 ?_
  refine V_getN (ci := 8) (N := 24) (C := RX9) (T := TX9) (o := i14) (j := 23) X rfl in_X9 (by decide) hki14 (by decide) q427 (fv_0 rfl) dX1_pumps_17 ?_
  obtain ⟨c20, hc20, h⟩ := bind_some_eq h
  refine V_callV (ci := 7) (N := 4) (T := TX8) (As := [vI l1, vI (gI y5 823 i14)]) (rest := []) (s1 := []) (o := 78) X (con_xMiles_lays K hW N y5 l1 (gI y5 823 i14) c20 hc20) gwX1_lays_390 hdV_X8_lays ⟨Nat.le_of_ble_eq_true rfl, Nat.le_of_ble_eq_true rfl⟩ rfl (by decide) (hW.at 78 rfl) rfl rfl (Nat.le_of_ble_eq_true rfl) ⟨Nat.zero_le _, Nat.zero_le _⟩ dX1_pumps_20 rfl rfl ?_
  refine V_aload_n X dX1_pumps_23 0 rfl ?_
  refine V_get (ci := 0) (N := 18) (C := RX1) (T := TX1) (o := 0) (j := 11) X rfl in_X1 (by decide) (hW.at 0 rfl) (by decide) q488 (fv_1 (i := 78) rfl rfl) dX1_pumps_24 ?_
  refine V_getN (ci := 7) (N := 4) (C := RX8) (T := TX8) (o := 78) (j := 1) X rfl in_X8 (by decide) (hW.at 78 rfl) (by decide) q335 (fv_1 (i := 80) rfl rfl) dX1_pumps_27 ?_
  refine V_aload_n X dX1_pumps_30 0 rfl ?_
  obtain ⟨i31, hvi31, hki31, h⟩ := rdR_some h
  refine V_get (ci := 0) (N := 18) (C := RX1) (T := TX1) (o := 0) (j := 12) X rfl in_X1 (by decide) (hW.at 0 rfl) (by decide) q489 (fv_3i rfl hvi31) dX1_pumps_31 ?_
  refine V_getN (ci := 8) (N := 24) (C := RX9) (T := TX9) (o := i31) (j := 22) X rfl in_X9 (by decide) hki31 (by decide) q424 (fv_0 rfl) dX1_pumps_34 ?_
  refine V_iald X (o := 80) (n := 100) (hW.at 80 rfl) (by decide) dX1_pumps_37 h (fun v37 h => ?_)
  have hr := Option.some.inj h
  subst hr
  exact V_end_i hX rfl dX1_pumps_38
set_option maxHeartbeats 4000000 in
theorem con_x_odds (K : Nat → Nat) (hW : WFK K) (N : Nat) (sz : Nat) (g : GS) (l1 : Int) (l2 : Int) (r : ((Nat × GS) ⊕ (Int × GS))) (h : x_odds N K g l1 l2 = some r) : ConX sz yX1_odds cX1_odds 5 (some .long) 8 183 K (fun b => [.ref (b + 0), vI l1, vI l2]) g (fun r => ((fun _ => some (vL r.1)), r.2)) r := by
  refine ConX.of RX1 (by decide) rfl (fun b => Nat.le_of_ble_eq_true rfl) (fun x hX => ?_)
  have X := hX.ok
  have LL24 : ∀ (g : GS) (l1 : Int) (l2 : Int) (n : Nat) (s : (Int × Int)) (e : (Int)), loopN (fun s => x_odds_b24 N K g l1 l2 s.1 s.2) n s = some e → V x 5 K 0 0 sz g 53 [(0, .ref (xb x + 0)), (1, vI l1), (2, vI l2), (3, vI e)] [] → V x 5 K 0 0 sz g 24 [(0, .ref (xb x + 0)), (1, vI l1), (2, vI l2), (3, vI s.1), (4, vI s.2)] [] := by
    intro g l1 l2 n s e
    refine loop_walk (P := fun s => V x 5 K 0 0 sz g 24 [(0, .ref (xb x + 0)), (1, vI l1), (2, vI l2), (3, vI s.1), (4, vI s.2)] []) (E := fun e => V x 5 K 0 0 sz g 53 [(0, .ref (xb x + 0)), (1, vI l1), (2, vI l2), (3, vI e)] []) ?_ n s e
    clear e s n
    rintro ⟨l3, l4⟩ q24 h hc24 he24
    replace h : x_odds_b24 N K g l1 l2 l3 l4 = some q24 := h
    unfold x_odds_b24 at h
    show V x 5 K 0 0 sz g 24 [(0, .ref (xb x + 0)), (1, vI l1), (2, vI l2), (3, vI l3), (4, vI l4)] []
    refine V_iload X dX1_odds_24 4 rfl ?_
    refine V_aload_n X dX1_odds_26 0 rfl ?_
    obtain ⟨i27, hvi27, hki27, h⟩ := rdR_some h
    refine V_get (ci := 0) (N := 18) (C := RX1) (T := TX1) (o := 0) (j := 12) X rfl in_X1 (by decide) (hW.at 0 rfl) (by decide) q489 (fv_3i rfl hvi27) dX1_odds_27 ?_
    refine V_getN (ci := 8) (N := 24) (C := RX9) (T := TX9) (o := i27) (j := 18) X rfl in_X9 (by decide) hki27 (by decide) q413 (fv_0 rfl) dX1_odds_30 ?_
    refine V_icmp_ge (tgt := 53) X dX1_odds_33 (by decide) h (fun h => ?_) (fun h => ?_)
    · exact V_sub [0, 1, 2, 3] rfl (he24 _ (Option.some.inj h).symm)
    · refine V_iload_n X dX1_odds_36 3 rfl ?_
      refine V_aload_n X dX1_odds_37 0 rfl ?_
      refine V_iload X dX1_odds_38 4 rfl ?_
      refine V_iconst X dX1_odds_40 ?_
      refine V_iconst X dX1_odds_41 ?_
      obtain ⟨c42, hc42, h⟩ := bind_some_eq h
      refine V_callV (ci := 0) (N := 18) (T := TX1) (As := [vI l4, vI (-1), vI (-1)]) (rest := [vI l3]) (s1 := [vI c42, vI l3]) (o := 0) X (con_x_weight K hW N g l4 (-1) (-1) c42 hc42) gwX1_weight_407 hdV_X1_weight ⟨Nat.le_of_ble_eq_true rfl, Nat.le_of_ble_eq_true rfl⟩ rfl (by decide) (hW.at 0 rfl) rfl rfl (Nat.le_of_ble_eq_true rfl) ⟨Nat.zero_le _, Nat.zero_le _⟩ dX1_odds_42 rfl rfl ?_
      refine V_iadd X dX1_odds_45 ?_
      refine V_istore_n X dX1_odds_46 (by decide) (L' := [(3, vI (l3 + c42)), (0, .ref (xb x + 0)), (1, vI l1), (2, vI l2), (4, vI l4)]) rfl ?_
      refine V_iinc X dX1_odds_47 4 rfl (by decide) (L' := [(4, vI (l4 + 1)), (3, vI (l3 + c42)), (0, .ref (xb x + 0)), (1, vI l1), (2, vI l2)]) rfl ?_
      refine V_goto (tgt := 24) X dX1_odds_50 (by decide) ?_
      exact V_sub [2, 3, 4, 1, 0] rfl (hc24 _ (Option.some.inj h).symm)
  unfold x_odds at h
  show V x 5 K 0 0 sz g 0 [(0, .ref (xb x + 0)), (1, vI l1), (2, vI l2)] []
  refine V_aload_n X dX1_odds_0 0 rfl ?_
  refine V_iload_n X dX1_odds_1 1 rfl ?_
  refine V_aload_n X dX1_odds_2 0 rfl ?_
  obtain ⟨i3, hvi3, hki3, h⟩ := rdR_some h
  refine V_get (ci := 0) (N := 18) (C := RX1) (T := TX1) (o := 0) (j := 12) X rfl in_X1 (by decide) (hW.at 0 rfl) (by decide) q489 (fv_3i rfl hvi3) dX1_odds_3 ?_
  refine V_getN (ci := 8) (N := 24) (C := RX9) (T := TX9) (o := i3) (j := 18) X rfl in_X9 (by decide) hki3 (by decide) q413 (fv_0 rfl) dX1_odds_6 ?_
  obtain ⟨c9, hc9, h⟩ := bind_some_eq h
  rcases c9 with x9 | y9
  · replace h := thT_l h
    have hr := Option.some.inj h
    subst hr
    exact V_callVT (ci := 0) (N := 18) (T := TX1) (As := [vI l1, vI (gI g 818 i3)]) (rest := []) (o := 0) hX (con_x_isThere K hW sz g l1 (gI g 818 i3) (.inl x9) hc9) gwX1_isThere_93 hdV_X1_isThere ⟨Nat.le_of_ble_eq_true rfl, Nat.le_of_ble_eq_true rfl⟩ rfl (by decide) (hW.at 0 rfl) rfl rfl (Nat.le_of_ble_eq_true rfl) dX1_odds_9 rfl
  replace h := thT_r h
  refine V_callV1 (ci := 0) (N := 18) (T := TX1) (As := [vI l1, vI (gI g 818 i3)]) (rest := []) (s1 := []) (o := 0) X (con_x_isThere K hW sz g l1 (gI g 818 i3) (.inr y9) hc9) gwX1_isThere_93 hdV_X1_isThere ⟨Nat.le_of_ble_eq_true rfl, Nat.le_of_ble_eq_true rfl⟩ rfl (by decide) (hW.at 0 rfl) rfl rfl (Nat.le_of_ble_eq_true rfl) ⟨Nat.zero_le _, Nat.zero_le _⟩ dX1_odds_9 rfl rfl ?_
  refine V_aload_n X dX1_odds_12 0 rfl ?_
  refine V_iload_n X dX1_odds_13 2 rfl ?_
  refine V_iconst X dX1_odds_14 ?_
  refine V_iconst X dX1_odds_15 ?_
  obtain ⟨c16, hc16, h⟩ := bind_some_eq h
  rcases c16 with x16 | y16
  · replace h := thT_l h
    have hr := Option.some.inj h
    subst hr
    exact V_callVT (ci := 0) (N := 18) (T := TX1) (As := [vI l2, vI 0, vI 1]) (rest := []) (o := 0) hX (con_x_within K hW sz y9 l2 0 1 (.inl x16) hc16) gwX1_within_125 hdV_X1_within ⟨Nat.le_of_ble_eq_true rfl, Nat.le_of_ble_eq_true rfl⟩ rfl (by decide) (hW.at 0 rfl) rfl rfl (Nat.le_of_ble_eq_true rfl) dX1_odds_16 rfl
  replace h := thT_r h
  refine V_callV1 (ci := 0) (N := 18) (T := TX1) (As := [vI l2, vI 0, vI 1]) (rest := []) (s1 := []) (o := 0) X (con_x_within K hW sz y9 l2 0 1 (.inr y16) hc16) gwX1_within_125 hdV_X1_within ⟨Nat.le_of_ble_eq_true rfl, Nat.le_of_ble_eq_true rfl⟩ rfl (by decide) (hW.at 0 rfl) rfl rfl (Nat.le_of_ble_eq_true rfl) ⟨Nat.zero_le _, Nat.zero_le _⟩ dX1_odds_16 rfl rfl ?_
  refine V_iconst X dX1_odds_19 ?_
  refine V_istore_n X dX1_odds_20 (by decide) (L' := [(3, vI 0), (0, .ref (xb x + 0)), (1, vI l1), (2, vI l2)]) rfl ?_
  refine V_iconst X dX1_odds_21 ?_
  refine V_istore X dX1_odds_22 (by decide) (L' := [(4, vI 0), (3, vI 0), (0, .ref (xb x + 0)), (1, vI l1), (2, vI l2)]) rfl ?_
  obtain ⟨t1, t1q, h⟩ := bind_some_eq h
  refine V_sub [2, 3, 4, 1, 0] rfl (LL24 y16 l1 l2 N (0, 0) _ t1q ?_)
  refine V_iload_n X dX1_odds_53 3 rfl ?_
  refine V_if_ne (tgt := 62) X dX1_odds_54 (by decide) h (fun h => ?_) (fun h => ?_)
  · refine V_aload_n X dX1_odds_62 0 rfl ?_
    refine V_iload_n X dX1_odds_63 1 rfl ?_
    refine V_iconst X dX1_odds_64 ?_
    refine V_iconst X dX1_odds_65 ?_
    obtain ⟨c66, hc66, h⟩ := bind_some_eq h
    refine V_callV (ci := 0) (N := 18) (T := TX1) (As := [vI l1, vI (-1), vI (-1)]) (rest := []) (s1 := [vI c66]) (o := 0) X (con_x_weight K hW N y16 l1 (-1) (-1) c66 hc66) gwX1_weight_407 hdV_X1_weight ⟨Nat.le_of_ble_eq_true rfl, Nat.le_of_ble_eq_true rfl⟩ rfl (by decide) (hW.at 0 rfl) rfl rfl (Nat.le_of_ble_eq_true rfl) ⟨Nat.zero_le _, Nat.zero_le _⟩ dX1_odds_66 rfl rfl ?_
    refine V_i2l X dX1_odds_69 ?_
    refine V_iload_n X dX1_odds_70 3 rfl ?_
    refine V_i2l X dX1_odds_71 ?_
    refine V_iload_n X dX1_odds_72 2 rfl ?_
    obtain ⟨c73, hc73, h⟩ := bind_some_eq h
    refine V_callS (As := [vL (w32 c66), vL (w32 t1), vI l2]) (rest := []) (s1 := [vL c73]) X (con_x_part K hW N y16 (w32 c66) (w32 t1) l2 c73 hc73) gwX1_part_363 hdS_X1_part ⟨Nat.le_of_ble_eq_true rfl, Nat.le_of_ble_eq_true rfl⟩ rfl rfl (Nat.le_of_ble_eq_true rfl) ⟨Nat.zero_le _, Nat.zero_le _⟩ dX1_odds_73 rfl rfl ?_
    have hr := Option.some.inj h
    subst hr
    exact V_end_l hX rfl dX1_odds_76
  · refine V_iload_n X dX1_odds_57 2 rfl ?_
    refine V_i2l X dX1_odds_58 ?_
    refine V_goto (tgt := 76) X dX1_odds_59 (by decide) ?_
    have hr := Option.some.inj h
    subst hr
    exact V_end_l hX rfl dX1_odds_76
set_option maxHeartbeats 4000000 in
theorem con_x_evening (K : Nat → Nat) (hW : WFK K) (N : Nat) (sz : Nat) (g : GS) (l1 : Int) (l2 : Int) (r : ((Nat × GS) ⊕ (Int × GS))) (h : x_evening N K g l1 l2 = some r) : ConX sz yX1_evening cX1_evening 3 (some .int) 211 5034 K (fun b => [.ref (b + 0), vI l1, vI l2]) g (fun r => ((fun _ => some (vI r.1)), r.2)) r := by
  refine ConX.of RX1 (by decide) rfl (fun b => Nat.le_of_ble_eq_true rfl) (fun x hX => ?_)
  have X := hX.ok
  unfold x_evening at h
  show V x 3 K 0 0 sz g 0 [(0, .ref (xb x + 0)), (1, vI l1), (2, vI l2)] []
  refine V_aload_n X dX1_evening_0 0 rfl ?_
  refine V_iload_n X dX1_evening_1 2 rfl ?_
  refine V_iconst X dX1_evening_2 ?_
  refine V_iconst X dX1_evening_3 ?_
  obtain ⟨c4, hc4, h⟩ := bind_some_eq h
  rcases c4 with x4 | y4
  · replace h := thT_l h
    have hr := Option.some.inj h
    subst hr
    exact V_callVT (ci := 0) (N := 18) (T := TX1) (As := [vI l2, vI 0, vI 2]) (rest := []) (o := 0) hX (con_x_within K hW sz g l2 0 2 (.inl x4) hc4) gwX1_within_125 hdV_X1_within ⟨Nat.le_of_ble_eq_true rfl, Nat.le_of_ble_eq_true rfl⟩ rfl (by decide) (hW.at 0 rfl) rfl rfl (Nat.le_of_ble_eq_true rfl) dX1_evening_4 rfl
  replace h := thT_r h
  refine V_callV1 (ci := 0) (N := 18) (T := TX1) (As := [vI l2, vI 0, vI 2]) (rest := []) (s1 := []) (o := 0) X (con_x_within K hW sz g l2 0 2 (.inr y4) hc4) gwX1_within_125 hdV_X1_within ⟨Nat.le_of_ble_eq_true rfl, Nat.le_of_ble_eq_true rfl⟩ rfl (by decide) (hW.at 0 rfl) rfl rfl (Nat.le_of_ble_eq_true rfl) ⟨Nat.zero_le _, Nat.zero_le _⟩ dX1_evening_4 rfl rfl ?_
  refine V_aload_n X dX1_evening_7 0 rfl ?_
  refine V_iload_n X dX1_evening_8 1 rfl ?_
  obtain ⟨c9, hc9, h⟩ := bind_some_eq h
  refine V_callV (ci := 0) (N := 18) (T := TX1) (As := [vI l1]) (rest := []) (s1 := [.ref (xb x + 14)]) (o := 0) X (con_x_lost K hW N y4 l1 c9 hc9) gwX1_lost_417 hdV_X1_lost ⟨Nat.le_of_ble_eq_true rfl, Nat.le_of_ble_eq_true rfl⟩ rfl (by decide) (hW.at 0 rfl) rfl rfl (Nat.le_of_ble_eq_true rfl) ⟨Nat.zero_le _, Nat.zero_le _⟩ dX1_evening_9 rfl rfl ?_
  refine V_pop X dX1_evening_12 rfl ?_
  refine V_iload_n X dX1_evening_13 2 rfl ?_
  refine V_if_ne (tgt := 27) X dX1_evening_14 (by decide) h (fun h => ?_) (fun h => ?_)
  · refine V_iload_n X dX1_evening_27 2 rfl ?_
    refine V_iconst X dX1_evening_28 ?_
    refine V_icmp_ne (tgt := 42) X dX1_evening_29 (by decide) h (fun h => ?_) (fun h => ?_)
    · refine V_aload_n X dX1_evening_42 0 rfl ?_
      refine V_get (ci := 0) (N := 18) (C := RX1) (T := TX1) (o := 0) (j := 8) X rfl in_X1 (by decide) (hW.at 0 rfl) (by decide) q485 (fv_1 (i := 14) rfl rfl) dX1_evening_43 ?_
      refine V_getN (ci := 3) (N := 15) (C := RX4) (T := TX4) (o := 14) (j := 10) X rfl in_X4 (by decide) (hW.at 14 rfl) (by decide) q234 (fv_0 rfl) dX1_evening_46 ?_
      have hr := Option.some.inj h
      subst hr
      exact V_end_i hX rfl dX1_evening_49
    · refine V_aload_n X dX1_evening_32 0 rfl ?_
      refine V_get (ci := 0) (N := 18) (C := RX1) (T := TX1) (o := 0) (j := 8) X rfl in_X1 (by decide) (hW.at 0 rfl) (by decide) q485 (fv_1 (i := 14) rfl rfl) dX1_evening_33 ?_
      obtain ⟨c36, hc36, h⟩ := bind_some_eq h
      refine V_callV (ci := 3) (N := 15) (T := TX4) (As := []) (rest := []) (s1 := [vI c36]) (o := 14) X (con_xWatch_allWet K hW N 14 (hW.at 14 rfl) c9 c36 hc36) gwX1_allWet_420 hdV_X4_allWet ⟨Nat.le_of_ble_eq_true rfl, Nat.le_of_ble_eq_true rfl⟩ rfl (by decide) (hW.at 14 rfl) rfl rfl (Nat.le_of_ble_eq_true rfl) ⟨Nat.zero_le _, Nat.zero_le _⟩ dX1_evening_36 rfl rfl ?_
      refine V_goto (tgt := 49) X dX1_evening_39 (by decide) ?_
      have hr := Option.some.inj h
      subst hr
      exact V_end_i hX rfl dX1_evening_49
  · refine V_aload_n X dX1_evening_17 0 rfl ?_
    refine V_get (ci := 0) (N := 18) (C := RX1) (T := TX1) (o := 0) (j := 8) X rfl in_X1 (by decide) (hW.at 0 rfl) (by decide) q485 (fv_1 (i := 14) rfl rfl) dX1_evening_18 ?_
    refine V_getN (ci := 3) (N := 15) (C := RX4) (T := TX4) (o := 14) (j := 9) X rfl in_X4 (by decide) (hW.at 14 rfl) (by decide) q232 (fv_0 rfl) dX1_evening_21 ?_
    refine V_goto (tgt := 49) X dX1_evening_24 (by decide) ?_
    have hr := Option.some.inj h
    subst hr
    exact V_end_i hX rfl dX1_evening_49
set_option maxHeartbeats 4000000 in
theorem con_x_evenings (K : Nat → Nat) (hW : WFK K) (N : Nat) (sz : Nat) (g : GS) (l1 : Int) (l2 : Int) (l3 : Int) (r : ((Nat × GS) ⊕ (Int × GS))) (h : x_evenings N K g l1 l2 l3 = some r) : ConX sz yX1_evenings cX1_evenings 10 (some .int) 211 5034 K (fun b => [.ref (b + 0), vI l1, vI l2, vI l3]) g (fun r => ((fun _ => some (vI r.1)), r.2)) r := by
  refine ConX.of RX1 (by decide) rfl (fun b => Nat.le_of_ble_eq_true rfl) (fun x hX => ?_)
  have X := hX.ok
  have LL30 : ∀ (l1 : Int) (l2 : Int) (l3 : Int) (n : Nat) (s : (GS × Int × Int × Int × Int × Int)) (e : (GS × Int × Int × Int × Int)), loopN (fun s => x_evenings_b30 N K l1 l2 l3 s.1 s.2.1 s.2.2.1 s.2.2.2.1 s.2.2.2.2.1 s.2.2.2.2.2) n s = some e → V x 10 K 0 0 sz e.1 103 [(3, vI l3), (4, vI e.2.1), (5, vI e.2.2.1), (6, vI e.2.2.2.1), (7, vI e.2.2.2.2)] [] → V x 10 K 0 0 sz s.1 30 [(0, .ref (xb x + 0)), (1, vI l1), (2, vI l2), (3, vI l3), (4, vI s.2.1), (5, vI s.2.2.1), (6, vI s.2.2.2.1), (7, vI s.2.2.2.2.1), (8, vI s.2.2.2.2.2)] [] := by
    intro l1 l2 l3 n s e
    refine loop_walk (P := fun s => V x 10 K 0 0 sz s.1 30 [(0, .ref (xb x + 0)), (1, vI l1), (2, vI l2), (3, vI l3), (4, vI s.2.1), (5, vI s.2.2.1), (6, vI s.2.2.2.1), (7, vI s.2.2.2.2.1), (8, vI s.2.2.2.2.2)] []) (E := fun e => V x 10 K 0 0 sz e.1 103 [(3, vI l3), (4, vI e.2.1), (5, vI e.2.2.1), (6, vI e.2.2.2.1), (7, vI e.2.2.2.2)] []) ?_ n s e
    clear e s n
    rintro ⟨g, l4, l5, l6, l7, l8⟩ q30 h hc30 he30
    replace h : x_evenings_b30 N K l1 l2 l3 g l4 l5 l6 l7 l8 = some q30 := h
    have J66 : ∀ (g : GS) (l5 : Int) (l6 : Int) (l7 : Int) (l8 : Int) (l9 : Int) (s0 : Int), x_evenings_j66 N K g l1 l2 l3 l5 l6 l7 l8 l9 s0 = some q30 → V x 10 K 0 0 sz g 66 [(0, .ref (xb x + 0)), (1, vI l1), (2, vI l2), (3, vI l3), (5, vI l5), (6, vI l6), (7, vI l7), (8, vI l8), (9, vI l9)] [vI s0] := by
      intro g l5 l6 l7 l8 l9 s0 h
      unfold x_evenings_j66 at h
      refine V_istore X dX1_evenings_66 (by decide) (L' := [(4, vI s0), (0, .ref (xb x + 0)), (1, vI l1), (2, vI l2), (3, vI l3), (5, vI l5), (6, vI l6), (7, vI l7), (8, vI l8), (9, vI l9)]) rfl ?_
      refine V_iload X dX1_evenings_68 5 rfl ?_
      refine V_iload X dX1_evenings_70 9 rfl ?_
      refine V_max X q678 ⟨Nat.le_of_ble_eq_true rfl, Nat.le_of_ble_eq_true rfl⟩ (Nat.le_of_ble_eq_true rfl) ⟨Nat.zero_le _, Nat.zero_le _⟩ dX1_evenings_72 ?_
      refine V_istore X dX1_evenings_75 (by decide) (L' := [(5, vI (imax l5 l9)), (4, vI s0), (0, .ref (xb x + 0)), (1, vI l1), (2, vI l2), (3, vI l3), (6, vI l6), (7, vI l7), (8, vI l8), (9, vI l9)]) rfl ?_
      refine V_iload X dX1_evenings_77 6 rfl ?_
      refine V_iload X dX1_evenings_79 9 rfl ?_
      refine V_iadd X dX1_evenings_81 ?_
      refine V_istore X dX1_evenings_82 (by decide) (L' := [(6, vI (l6 + l9)), (5, vI (imax l5 l9)), (4, vI s0), (0, .ref (xb x + 0)), (1, vI l1), (2, vI l2), (3, vI l3), (7, vI l7), (8, vI l8), (9, vI l9)]) rfl ?_
      refine V_aload_n X dX1_evenings_84 3 rfl ?_
      refine V_get (ci := 0) (N := 18) (C := RX1) (T := TX1) (o := 0) (j := 8) X rfl in_X1 (by decide) (hW.at 0 rfl) (by decide) q485 (fv_1 (i := 14) rfl rfl) dX1_evenings_85 ?_
      refine V_getN (ci := 3) (N := 15) (C := RX4) (T := TX4) (o := 14) (j := 10) X rfl in_X4 (by decide) (hW.at 14 rfl) (by decide) q234 (fv_0 rfl) dX1_evenings_88 ?_
      refine V_if_ne (tgt := 97) X dX1_evenings_91 (by decide) h (fun h => ?_) (fun h => ?_)
      · refine V_iinc X dX1_evenings_97 8 rfl (by decide) (L' := [(8, vI (l8 + 1)), (6, vI (l6 + l9)), (5, vI (imax l5 l9)), (4, vI s0), (0, .ref (xb x + 0)), (1, vI l1), (2, vI l2), (3, vI l3), (7, vI l7), (9, vI l9)]) rfl ?_
        refine V_goto (tgt := 30) X dX1_evenings_100 (by decide) ?_
        exact V_sub [4, 5, 6, 7, 3, 2, 1, 8, 0] rfl (hc30 _ (Option.some.inj h).symm)
      · refine V_iinc X dX1_evenings_94 7 rfl (by decide) (L' := [(7, vI (l7 + 1)), (6, vI (l6 + l9)), (5, vI (imax l5 l9)), (4, vI s0), (0, .ref (xb x + 0)), (1, vI l1), (2, vI l2), (3, vI l3), (8, vI l8), (9, vI l9)]) rfl ?_
        refine V_iinc X dX1_evenings_97 8 rfl (by decide) (L' := [(8, vI (l8 + 1)), (7, vI (l7 + 1)), (6, vI (l6 + l9)), (5, vI (imax l5 l9)), (4, vI s0), (0, .ref (xb x + 0)), (1, vI l1), (2, vI l2), (3, vI l3), (9, vI l9)]) rfl ?_
        refine V_goto (tgt := 30) X dX1_evenings_100 (by decide) ?_
        exact V_sub [5, 6, 7, 8, 4, 3, 2, 1, 0] rfl (hc30 _ (Option.some.inj h).symm)
    unfold x_evenings_b30 at h
    show V x 10 K 0 0 sz g 30 [(0, .ref (xb x + 0)), (1, vI l1), (2, vI l2), (3, vI l3), (4, vI l4), (5, vI l5), (6, vI l6), (7, vI l7), (8, vI l8)] []
    refine V_iload X dX1_evenings_30 8 rfl ?_
    refine V_iload_n X dX1_evenings_32 2 rfl ?_
    refine V_icmp_ge (tgt := 103) X dX1_evenings_33 (by decide) h (fun h => ?_) (fun h => ?_)
    · exact V_sub [3, 4, 5, 6, 7] rfl (he30 _ (Option.some.inj h).symm)
    · refine V_aload_n X dX1_evenings_36 0 rfl ?_
      refine V_iload_n X dX1_evenings_37 1 rfl ?_
      refine V_iload X dX1_evenings_38 8 rfl ?_
      refine V_iadd X dX1_evenings_40 ?_
      obtain ⟨c41, hc41, h⟩ := bind_some_eq h
      refine V_callV (ci := 0) (N := 18) (T := TX1) (As := [vI (l1 + l8)]) (rest := []) (s1 := [.ref (xb x + 14)]) (o := 0) X (con_x_lost K hW N g (l1 + l8) c41 hc41) gwX1_lost_417 hdV_X1_lost ⟨Nat.le_of_ble_eq_true rfl, Nat.le_of_ble_eq_true rfl⟩ rfl (by decide) (hW.at 0 rfl) rfl rfl (Nat.le_of_ble_eq_true rfl) ⟨Nat.zero_le _, Nat.zero_le _⟩ dX1_evenings_41 rfl rfl ?_
      refine V_getN (ci := 3) (N := 15) (C := RX4) (T := TX4) (o := 14) (j := 9) X rfl in_X4 (by decide) (hW.at 14 rfl) (by decide) q232 (fv_0 rfl) dX1_evenings_44 ?_
      refine V_istore X dX1_evenings_47 (by decide) (L' := [(9, vI (gI c41 309 14)), (0, .ref (xb x + 0)), (1, vI l1), (2, vI l2), (3, vI l3), (4, vI l4), (5, vI l5), (6, vI l6), (7, vI l7), (8, vI l8)]) rfl ?_
      refine V_iload X dX1_evenings_49 9 rfl ?_
      refine V_if_ne (tgt := 59) X dX1_evenings_51 (by decide) h (fun h => ?_) (fun h => ?_)
      · refine V_iload X dX1_evenings_59 5 rfl ?_
        refine V_iload X dX1_evenings_61 0 rfl ?_
        refine V_min X q997 ⟨Nat.le_of_ble_eq_true rfl, Nat.le_of_ble_eq_true rfl⟩ (Nat.le_of_ble_eq_true rfl) ⟨Nat.zero_le _, Nat.zero_le _⟩ dX1_evenings_63 ?_
        exact V_sub [1, 2, 3, 4, 6, 7, 8, 9, 0] rfl (J66 _ _ _ _ _ _ _ h)
      · refine V_iload X dX1_evenings_54 0 rfl ?_
        refine V_goto (tgt := 66) X dX1_evenings_56 (by decide) ?_
        exact V_sub [1, 2, 3, 4, 6, 7, 8, 9, 0] rfl (J66 _ _ _ _ _ _ _ h)
  unfold x_evenings at h
  show V x 10 K 0 0 sz g 0 [(0, .ref (xb x + 0)), (1, vI l1), (2, vI l2), (3, vI l3)] []
  refine V_aload_n X dX1_evenings_0 0 rfl ?_
  refine V_iload_n X dX1_evenings_1 2 rfl ?_
  refine V_iconst X dX1_evenings_2 ?_
  refine V_bipush X dX1_evenings_3 (by decide) ?_
  obtain ⟨c5, hc5, h⟩ := bind_some_eq h
  rcases c5 with x5 | y5
  · replace h := thT_l h
    have hr := Option.some.inj h
    subst hr
    exact V_callVT (ci := 0) (N := 18) (T := TX1) (As := [vI l2, vI 1, vI 40]) (rest := []) (o := 0) hX (con_x_within K hW sz g l2 1 40 (.inl x5) hc5) gwX1_within_125 hdV_X1_within ⟨Nat.le_of_ble_eq_true rfl, Nat.le_of_ble_eq_true rfl⟩ rfl (by decide) (hW.at 0 rfl) rfl rfl (Nat.le_of_ble_eq_true rfl) dX1_evenings_5 rfl
  replace h := thT_r h
  refine V_callV1 (ci := 0) (N := 18) (T := TX1) (As := [vI l2, vI 1, vI 40]) (rest := []) (s1 := []) (o := 0) X (con_x_within K hW sz g l2 1 40 (.inr y5) hc5) gwX1_within_125 hdV_X1_within ⟨Nat.le_of_ble_eq_true rfl, Nat.le_of_ble_eq_true rfl⟩ rfl (by decide) (hW.at 0 rfl) rfl rfl (Nat.le_of_ble_eq_true rfl) ⟨Nat.zero_le _, Nat.zero_le _⟩ dX1_evenings_5 rfl rfl ?_
  refine V_aload_n X dX1_evenings_8 0 rfl ?_
  refine V_iload_n X dX1_evenings_9 3 rfl ?_
  refine V_iconst X dX1_evenings_10 ?_
  refine V_iconst X dX1_evenings_11 ?_
  obtain ⟨c12, hc12, h⟩ := bind_some_eq h
  rcases c12 with x12 | y12
  · replace h := thT_l h
    have hr := Option.some.inj h
    subst hr
    exact V_callVT (ci := 0) (N := 18) (T := TX1) (As := [vI l3, vI 0, vI 3]) (rest := []) (o := 0) hX (con_x_within K hW sz y5 l3 0 3 (.inl x12) hc12) gwX1_within_125 hdV_X1_within ⟨Nat.le_of_ble_eq_true rfl, Nat.le_of_ble_eq_true rfl⟩ rfl (by decide) (hW.at 0 rfl) rfl rfl (Nat.le_of_ble_eq_true rfl) dX1_evenings_12 rfl
  replace h := thT_r h
  refine V_callV1 (ci := 0) (N := 18) (T := TX1) (As := [vI l3, vI 0, vI 3]) (rest := []) (s1 := []) (o := 0) X (con_x_within K hW sz y5 l3 0 3 (.inr y12) hc12) gwX1_within_125 hdV_X1_within ⟨Nat.le_of_ble_eq_true rfl, Nat.le_of_ble_eq_true rfl⟩ rfl (by decide) (hW.at 0 rfl) rfl rfl (Nat.le_of_ble_eq_true rfl) ⟨Nat.zero_le _, Nat.zero_le _⟩ dX1_evenings_12 rfl rfl ?_
  refine V_iconst X dX1_evenings_15 ?_
  refine V_istore X dX1_evenings_16 (by decide) (L' := [(4, vI 0), (0, .ref (xb x + 0)), (1, vI l1), (2, vI l2), (3, vI l3)]) rfl ?_
  refine V_iconst X dX1_evenings_18 ?_
  refine V_istore X dX1_evenings_19 (by decide) (L' := [(5, vI 0), (4, vI 0), (0, .ref (xb x + 0)), (1, vI l1), (2, vI l2), (3, vI l3)]) rfl ?_
  refine V_iconst X dX1_evenings_21 ?_
  refine V_istore X dX1_evenings_22 (by decide) (L' := [(6, vI 0), (5, vI 0), (4, vI 0), (0, .ref (xb x + 0)), (1, vI l1), (2, vI l2), (3, vI l3)]) rfl ?_
  refine V_iconst X dX1_evenings_24 ?_
  refine V_istore X dX1_evenings_25 (by decide) (L' := [(7, vI 0), (6, vI 0), (5, vI 0), (4, vI 0), (0, .ref (xb x + 0)), (1, vI l1), (2, vI l2), (3, vI l3)]) rfl ?_
  refine V_iconst X dX1_evenings_27 ?_
  refine V_istore X dX1_evenings_28 (by decide) (L' := [(8, vI 0), (7, vI 0), (6, vI 0), (5, vI 0), (4, vI 0), (0, .ref (xb x + 0)), (1, vI l1), (2, vI l2), (3, vI l3)]) rfl ?_
  obtain ⟨t1, t1q, h⟩ := bind_some_eq h
  refine V_sub [5, 6, 7, 8, 4, 3, 2, 1, 0] rfl (LL30 l1 l2 l3 N (y12, 0, 0, 0, 0, 0) _ t1q ?_)
  refine V_iload_n X dX1_evenings_103 0 rfl ?_
  refine V_if_ne (tgt := 112) X dX1_evenings_104 (by decide) h (fun h => ?_) (fun h => ?_)
  · refine V_iload_n X dX1_evenings_112 0 rfl ?_
    refine V_iconst X dX1_evenings_113 ?_
    refine V_icmp_ne (tgt := 122) X dX1_evenings_114 (by decide) h (fun h => ?_) (fun h => ?_)
    · refine V_iload_n X dX1_evenings_122 0 rfl ?_
      refine V_iconst X dX1_evenings_123 ?_
      refine V_icmp_ne (tgt := 132) X dX1_evenings_124 (by decide) h (fun h => ?_) (fun h => ?_)
      · refine V_iload X dX1_evenings_132 4 rfl ?_
        have hr := Option.some.inj h
        subst hr
        exact V_end_i hX rfl dX1_evenings_134
      · refine V_iload X dX1_evenings_127 3 rfl ?_
        refine V_goto (tgt := 134) X dX1_evenings_129 (by decide) ?_
        have hr := Option.some.inj h
        subst hr
        exact V_end_i hX rfl dX1_evenings_134
    · refine V_iload X dX1_evenings_117 2 rfl ?_
      refine V_goto (tgt := 134) X dX1_evenings_119 (by decide) ?_
      have hr := Option.some.inj h
      subst hr
      exact V_end_i hX rfl dX1_evenings_134
  · refine V_iload X dX1_evenings_107 1 rfl ?_
    refine V_goto (tgt := 134) X dX1_evenings_109 (by decide) ?_
    have hr := Option.some.inj h
    subst hr
    exact V_end_i hX rfl dX1_evenings_134
set_option maxHeartbeats 4000000 in
theorem con_x_swap (K : Nat → Nat) (hW : WFK K) (sz : Nat) (g : GS) (l1 : Int) (l2 : Int) (r : ((Nat × GS) ⊕ (Int × GS))) (h : x_swap K g l1 l2 = some r) : ConX sz yX1_swap cX1_swap 3 (some .int) 9 203 K (fun b => [.ref (b + 0), vI l1, vI l2]) g (fun r => ((fun _ => some (vI r.1)), r.2)) r := by
  refine ConX.of RX1 (by decide) rfl (fun b => Nat.le_of_ble_eq_true rfl) (fun x hX => ?_)
  have X := hX.ok
  unfold x_swap at h
  show V x 3 K 0 0 sz g 0 [(0, .ref (xb x + 0)), (1, vI l1), (2, vI l2)] []
  refine V_aload_n X dX1_swap_0 0 rfl ?_
  refine V_iload_n X dX1_swap_1 1 rfl ?_
  obtain ⟨c2, hc2, h⟩ := bind_some_eq h
  rcases c2 with x2 | y2
  · replace h := thT_l h
    have hr := Option.some.inj h
    subst hr
    exact V_callVT (ci := 0) (N := 18) (T := TX1) (As := [vI l1]) (rest := []) (o := 0) hX (con_x_lineOf K hW sz g l1 (.inl x2) hc2) gwX1_lineOf_273 hdV_X1_lineOf ⟨Nat.le_of_ble_eq_true rfl, Nat.le_of_ble_eq_true rfl⟩ rfl (by decide) (hW.at 0 rfl) rfl rfl (Nat.le_of_ble_eq_true rfl) dX1_swap_2 rfl
  replace h := thT_r h
  refine V_callV1 (ci := 0) (N := 18) (T := TX1) (As := [vI l1]) (rest := []) (s1 := []) (o := 0) X (con_x_lineOf K hW sz g l1 (.inr y2) hc2) gwX1_lineOf_273 hdV_X1_lineOf ⟨Nat.le_of_ble_eq_true rfl, Nat.le_of_ble_eq_true rfl⟩ rfl (by decide) (hW.at 0 rfl) rfl rfl (Nat.le_of_ble_eq_true rfl) ⟨Nat.zero_le _, Nat.zero_le _⟩ dX1_swap_2 rfl rfl ?_
  refine V_aload_n X dX1_swap_5 0 rfl ?_
  refine V_iload_n X dX1_swap_6 2 rfl ?_
  obtain ⟨c7, hc7, h⟩ := bind_some_eq h
  rcases c7 with x7 | y7
  · replace h := thT_l h
    have hr := Option.some.inj h
    subst hr
    exact V_callVT (ci := 0) (N := 18) (T := TX1) (As := [vI l2]) (rest := []) (o := 0) hX (con_x_lineOf K hW sz y2 l2 (.inl x7) hc7) gwX1_lineOf_273 hdV_X1_lineOf ⟨Nat.le_of_ble_eq_true rfl, Nat.le_of_ble_eq_true rfl⟩ rfl (by decide) (hW.at 0 rfl) rfl rfl (Nat.le_of_ble_eq_true rfl) dX1_swap_7 rfl
  replace h := thT_r h
  refine V_callV1 (ci := 0) (N := 18) (T := TX1) (As := [vI l2]) (rest := []) (s1 := []) (o := 0) X (con_x_lineOf K hW sz y2 l2 (.inr y7) hc7) gwX1_lineOf_273 hdV_X1_lineOf ⟨Nat.le_of_ble_eq_true rfl, Nat.le_of_ble_eq_true rfl⟩ rfl (by decide) (hW.at 0 rfl) rfl rfl (Nat.le_of_ble_eq_true rfl) ⟨Nat.zero_le _, Nat.zero_le _⟩ dX1_swap_7 rfl rfl ?_
  refine V_iload_n X dX1_swap_10 1 rfl ?_
  refine V_iload_n X dX1_swap_11 2 rfl ?_
  refine V_icmp_ne (tgt := 17) X dX1_swap_12 (by decide) h (fun h => ?_) (fun h => ?_)
  · refine V_aload_n X dX1_swap_17 0 rfl ?_
    obtain ⟨c18, hc18, h⟩ := bind_some_eq h
    refine V_callV (ci := 0) (N := 18) (T := TX1) (As := []) (rest := []) (s1 := [vI c18.1]) (o := 0) X (con_x_changes K hW y7 c18 hc18) gwX1_changes_426 hdV_X1_changes ⟨Nat.le_of_ble_eq_true rfl, Nat.le_of_ble_eq_true rfl⟩ rfl (by decide) (hW.at 0 rfl) rfl rfl (Nat.le_of_ble_eq_true rfl) ⟨Nat.zero_le _, Nat.zero_le _⟩ dX1_swap_18 rfl rfl ?_
    refine V_if_ne (tgt := 26) X dX1_swap_21 (by decide) h (fun h => ?_) (fun h => ?_)
    · refine V_aload_n X dX1_swap_26 0 rfl ?_
      refine V_get (ci := 0) (N := 18) (C := RX1) (T := TX1) (o := 0) (j := 2) X rfl in_X1 (by decide) (hW.at 0 rfl) (by decide) q479 (fv_1 (i := 3) rfl rfl) dX1_swap_27 ?_
      refine V_iload_n X dX1_swap_30 1 rfl ?_
      refine V_iload_n X dX1_swap_31 2 rfl ?_
      obtain ⟨c32, hc32, h⟩ := bind_some_eq h
      refine V_callV (ci := 2) (N := 3) (T := TX3) (As := [vI l1, vI l2]) (rest := []) (s1 := []) (o := 3) X (con_xPlan_swaps K hW 3 (hW.at 3 rfl) c18.2 l1 l2 c32 hc32) gwX1_swaps_429 hdV_X3_swaps ⟨Nat.le_of_ble_eq_true rfl, Nat.le_of_ble_eq_true rfl⟩ rfl (by decide) (hW.at 3 rfl) rfl rfl (Nat.le_of_ble_eq_true rfl) ⟨Nat.zero_le _, Nat.zero_le _⟩ dX1_swap_32 rfl rfl ?_
      refine V_iconst X dX1_swap_35 ?_
      have hr := Option.some.inj h
      subst hr
      exact V_end_i hX rfl dX1_swap_36
    · refine V_iconst X dX1_swap_24 ?_
      have hr := Option.some.inj h
      subst hr
      exact V_end_i hX rfl dX1_swap_25
  · refine V_iconst X dX1_swap_15 ?_
    have hr := Option.some.inj h
    subst hr
    exact V_end_i hX rfl dX1_swap_16
set_option maxHeartbeats 4000000 in
theorem con_x_hand (K : Nat → Nat) (hW : WFK K) (sz : Nat) (g : GS) (l1 : Int) (l2 : Int) (r : ((Nat × GS) ⊕ (Int × GS))) (h : x_hand K g l1 l2 = some r) : ConX sz yX1_hand cX1_hand 3 (some .int) 9 203 K (fun b => [.ref (b + 0), vI l1, vI l2]) g (fun r => ((fun _ => some (vI r.1)), r.2)) r := by
  refine ConX.of RX1 (by decide) rfl (fun b => Nat.le_of_ble_eq_true rfl) (fun x hX => ?_)
  have X := hX.ok
  unfold x_hand at h
  show V x 3 K 0 0 sz g 0 [(0, .ref (xb x + 0)), (1, vI l1), (2, vI l2)] []
  refine V_aload_n X dX1_hand_0 0 rfl ?_
  refine V_iload_n X dX1_hand_1 1 rfl ?_
  obtain ⟨c2, hc2, h⟩ := bind_some_eq h
  rcases c2 with x2 | y2
  · replace h := thT_l h
    have hr := Option.some.inj h
    subst hr
    exact V_callVT (ci := 0) (N := 18) (T := TX1) (As := [vI l1]) (rest := []) (o := 0) hX (con_x_lineOf K hW sz g l1 (.inl x2) hc2) gwX1_lineOf_273 hdV_X1_lineOf ⟨Nat.le_of_ble_eq_true rfl, Nat.le_of_ble_eq_true rfl⟩ rfl (by decide) (hW.at 0 rfl) rfl rfl (Nat.le_of_ble_eq_true rfl) dX1_hand_2 rfl
  replace h := thT_r h
  refine V_callV1 (ci := 0) (N := 18) (T := TX1) (As := [vI l1]) (rest := []) (s1 := []) (o := 0) X (con_x_lineOf K hW sz g l1 (.inr y2) hc2) gwX1_lineOf_273 hdV_X1_lineOf ⟨Nat.le_of_ble_eq_true rfl, Nat.le_of_ble_eq_true rfl⟩ rfl (by decide) (hW.at 0 rfl) rfl rfl (Nat.le_of_ble_eq_true rfl) ⟨Nat.zero_le _, Nat.zero_le _⟩ dX1_hand_2 rfl rfl ?_
  refine V_aload_n X dX1_hand_5 0 rfl ?_
  refine V_iload_n X dX1_hand_6 2 rfl ?_
  refine V_iconst X dX1_hand_7 ?_
  refine V_iconst X dX1_hand_8 ?_
  refine V_aload_n X dX1_hand_9 0 rfl ?_
  obtain ⟨i10, hvi10, hki10, h⟩ := rdR_some h
  refine V_get (ci := 0) (N := 18) (C := RX1) (T := TX1) (o := 0) (j := 12) X rfl in_X1 (by decide) (hW.at 0 rfl) (by decide) q489 (fv_3i rfl hvi10) dX1_hand_10 ?_
  refine V_getN (ci := 8) (N := 24) (C := RX9) (T := TX9) (o := i10) (j := 13) X rfl in_X9 (by decide) hki10 (by decide) q399 (fv_0 rfl) dX1_hand_13 ?_
  refine V_ishl X dX1_hand_16 ?_
  refine V_iconst X dX1_hand_17 ?_
  refine V_isub X dX1_hand_18 ?_
  obtain ⟨c19, hc19, h⟩ := bind_some_eq h
  rcases c19 with x19 | y19
  · replace h := thT_l h
    have hr := Option.some.inj h
    subst hr
    exact V_callVT (ci := 0) (N := 18) (T := TX1) (As := [vI l2, vI 1, vI ((i_shl 1 (gI y2 813 i10)) - 1)]) (rest := []) (o := 0) hX (con_x_within K hW sz y2 l2 1 ((i_shl 1 (gI y2 813 i10)) - 1) (.inl x19) hc19) gwX1_within_125 hdV_X1_within ⟨Nat.le_of_ble_eq_true rfl, Nat.le_of_ble_eq_true rfl⟩ rfl (by decide) (hW.at 0 rfl) rfl rfl (Nat.le_of_ble_eq_true rfl) dX1_hand_19 rfl
  replace h := thT_r h
  refine V_callV1 (ci := 0) (N := 18) (T := TX1) (As := [vI l2, vI 1, vI ((i_shl 1 (gI y2 813 i10)) - 1)]) (rest := []) (s1 := []) (o := 0) X (con_x_within K hW sz y2 l2 1 ((i_shl 1 (gI y2 813 i10)) - 1) (.inr y19) hc19) gwX1_within_125 hdV_X1_within ⟨Nat.le_of_ble_eq_true rfl, Nat.le_of_ble_eq_true rfl⟩ rfl (by decide) (hW.at 0 rfl) rfl rfl (Nat.le_of_ble_eq_true rfl) ⟨Nat.zero_le _, Nat.zero_le _⟩ dX1_hand_19 rfl rfl ?_
  refine V_aload_n X dX1_hand_22 0 rfl ?_
  refine V_iload_n X dX1_hand_23 2 rfl ?_
  refine V_bits X q1331 ⟨Nat.le_of_ble_eq_true rfl, Nat.le_of_ble_eq_true rfl⟩ (Nat.le_of_ble_eq_true rfl) ⟨Nat.zero_le _, Nat.zero_le _⟩ dX1_hand_24 ?_
  refine V_iconst X dX1_hand_27 ?_
  refine V_iconst X dX1_hand_28 ?_
  obtain ⟨c29, hc29, h⟩ := bind_some_eq h
  rcases c29 with x29 | y29
  · replace h := thT_l h
    have hr := Option.some.inj h
    subst hr
    exact V_callVT (ci := 0) (N := 18) (T := TX1) (As := [vI (i_bits l2), vI 1, vI 2]) (rest := []) (o := 0) hX (con_x_within K hW sz y19 (i_bits l2) 1 2 (.inl x29) hc29) gwX1_within_125 hdV_X1_within ⟨Nat.le_of_ble_eq_true rfl, Nat.le_of_ble_eq_true rfl⟩ rfl (by decide) (hW.at 0 rfl) rfl rfl (Nat.le_of_ble_eq_true rfl) dX1_hand_29 rfl
  replace h := thT_r h
  refine V_callV1 (ci := 0) (N := 18) (T := TX1) (As := [vI (i_bits l2), vI 1, vI 2]) (rest := []) (s1 := []) (o := 0) X (con_x_within K hW sz y19 (i_bits l2) 1 2 (.inr y29) hc29) gwX1_within_125 hdV_X1_within ⟨Nat.le_of_ble_eq_true rfl, Nat.le_of_ble_eq_true rfl⟩ rfl (by decide) (hW.at 0 rfl) rfl rfl (Nat.le_of_ble_eq_true rfl) ⟨Nat.zero_le _, Nat.zero_le _⟩ dX1_hand_29 rfl rfl ?_
  refine V_aload_n X dX1_hand_32 0 rfl ?_
  obtain ⟨c33, hc33, h⟩ := bind_some_eq h
  refine V_callV (ci := 0) (N := 18) (T := TX1) (As := []) (rest := []) (s1 := [vI c33.1]) (o := 0) X (con_x_changes K hW y29 c33 hc33) gwX1_changes_426 hdV_X1_changes ⟨Nat.le_of_ble_eq_true rfl, Nat.le_of_ble_eq_true rfl⟩ rfl (by decide) (hW.at 0 rfl) rfl rfl (Nat.le_of_ble_eq_true rfl) ⟨Nat.zero_le _, Nat.zero_le _⟩ dX1_hand_33 rfl rfl ?_
  refine V_if_ne (tgt := 41) X dX1_hand_36 (by decide) h (fun h => ?_) (fun h => ?_)
  · refine V_aload_n X dX1_hand_41 0 rfl ?_
    refine V_get (ci := 0) (N := 18) (C := RX1) (T := TX1) (o := 0) (j := 2) X rfl in_X1 (by decide) (hW.at 0 rfl) (by decide) q479 (fv_1 (i := 3) rfl rfl) dX1_hand_42 ?_
    refine V_getN (ci := 2) (N := 3) (C := RX3) (T := TX3) (o := 3) (j := 1) X rfl in_X3 (by decide) (hW.at 3 rfl) (by decide) q157 (fv_1 (i := 5) rfl rfl) dX1_hand_45 ?_
    refine V_iload_n X dX1_hand_48 1 rfl ?_
    refine V_iload_n X dX1_hand_49 2 rfl ?_
    refine V_iast X (o := 5) (n := 12) (hW.at 5 rfl) (by decide) dX1_hand_50 h (fun g50 h => ?_)
    refine V_iconst X dX1_hand_51 ?_
    have hr := Option.some.inj h
    subst hr
    exact V_end_i hX rfl dX1_hand_52
  · refine V_iconst X dX1_hand_39 ?_
    have hr := Option.some.inj h
    subst hr
    exact V_end_i hX rfl dX1_hand_40
set_option maxHeartbeats 4000000 in
theorem con_x_drop (K : Nat → Nat) (hW : WFK K) (N : Nat) (sz : Nat) (g : GS) (l1 : Int) (r : ((Nat × GS) ⊕ (Int × GS))) (h : x_drop N K g l1 = some r) : ConX sz yX1_drop cX1_drop 2 (some .int) 9 203 K (fun b => [.ref (b + 0), vI l1]) g (fun r => ((fun _ => some (vI r.1)), r.2)) r := by
  refine ConX.of RX1 (by decide) rfl (fun b => Nat.le_of_ble_eq_true rfl) (fun x hX => ?_)
  have X := hX.ok
  unfold x_drop at h
  show V x 2 K 0 0 sz g 0 [(0, .ref (xb x + 0)), (1, vI l1)] []
  refine V_aload_n X dX1_drop_0 0 rfl ?_
  refine V_iload_n X dX1_drop_1 1 rfl ?_
  obtain ⟨c2, hc2, h⟩ := bind_some_eq h
  rcases c2 with x2 | y2
  · replace h := thT_l h
    have hr := Option.some.inj h
    subst hr
    exact V_callVT (ci := 0) (N := 18) (T := TX1) (As := [vI l1]) (rest := []) (o := 0) hX (con_x_lineOf K hW sz g l1 (.inl x2) hc2) gwX1_lineOf_273 hdV_X1_lineOf ⟨Nat.le_of_ble_eq_true rfl, Nat.le_of_ble_eq_true rfl⟩ rfl (by decide) (hW.at 0 rfl) rfl rfl (Nat.le_of_ble_eq_true rfl) dX1_drop_2 rfl
  replace h := thT_r h
  refine V_callV1 (ci := 0) (N := 18) (T := TX1) (As := [vI l1]) (rest := []) (s1 := []) (o := 0) X (con_x_lineOf K hW sz g l1 (.inr y2) hc2) gwX1_lineOf_273 hdV_X1_lineOf ⟨Nat.le_of_ble_eq_true rfl, Nat.le_of_ble_eq_true rfl⟩ rfl (by decide) (hW.at 0 rfl) rfl rfl (Nat.le_of_ble_eq_true rfl) ⟨Nat.zero_le _, Nat.zero_le _⟩ dX1_drop_2 rfl rfl ?_
  refine V_aload_n X dX1_drop_5 0 rfl ?_
  obtain ⟨c6, hc6, h⟩ := bind_some_eq h
  refine V_callV (ci := 0) (N := 18) (T := TX1) (As := []) (rest := []) (s1 := [vI c6.1]) (o := 0) X (con_x_changes K hW y2 c6 hc6) gwX1_changes_426 hdV_X1_changes ⟨Nat.le_of_ble_eq_true rfl, Nat.le_of_ble_eq_true rfl⟩ rfl (by decide) (hW.at 0 rfl) rfl rfl (Nat.le_of_ble_eq_true rfl) ⟨Nat.zero_le _, Nat.zero_le _⟩ dX1_drop_6 rfl rfl ?_
  refine V_if_ne (tgt := 14) X dX1_drop_9 (by decide) h (fun h => ?_) (fun h => ?_)
  · refine V_aload_n X dX1_drop_14 0 rfl ?_
    refine V_get (ci := 0) (N := 18) (C := RX1) (T := TX1) (o := 0) (j := 2) X rfl in_X1 (by decide) (hW.at 0 rfl) (by decide) q479 (fv_1 (i := 3) rfl rfl) dX1_drop_15 ?_
    refine V_iload_n X dX1_drop_18 1 rfl ?_
    obtain ⟨c19, hc19, h⟩ := bind_some_eq h
    refine V_callV (ci := 2) (N := 3) (T := TX3) (As := [vI l1]) (rest := []) (s1 := []) (o := 3) X (con_xPlan_drops K hW N 3 (hW.at 3 rfl) c6.2 l1 c19 hc19) gwX1_drops_432 hdV_X3_drops ⟨Nat.le_of_ble_eq_true rfl, Nat.le_of_ble_eq_true rfl⟩ rfl (by decide) (hW.at 3 rfl) rfl rfl (Nat.le_of_ble_eq_true rfl) ⟨Nat.zero_le _, Nat.zero_le _⟩ dX1_drop_19 rfl rfl ?_
    refine V_aload_n X dX1_drop_22 0 rfl ?_
    refine V_get (ci := 0) (N := 18) (C := RX1) (T := TX1) (o := 0) (j := 2) X rfl in_X1 (by decide) (hW.at 0 rfl) (by decide) q479 (fv_1 (i := 3) rfl rfl) dX1_drop_23 ?_
    refine V_getN (ci := 2) (N := 3) (C := RX3) (T := TX3) (o := 3) (j := 2) X rfl in_X3 (by decide) (hW.at 3 rfl) (by decide) q160 (fv_0 rfl) dX1_drop_26 ?_
    have hr := Option.some.inj h
    subst hr
    exact V_end_i hX rfl dX1_drop_29
  · refine V_iconst X dX1_drop_12 ?_
    have hr := Option.some.inj h
    subst hr
    exact V_end_i hX rfl dX1_drop_13
