set_option maxRecDepth 100000
theorem hdV_X12_byteAt : yX12_byteAt.cls = RX12 ∧ yX12_byteAt.cls ≠ "java/lang/invoke/MethodHandle" ∧ yX12_byteAt.cls ≠ "java/lang/invoke/VarHandle" ∧ (parseMethodDescriptor yX12_byteAt.desc).map (fun d => d.parameters.length) = some 1 := by decide +kernel
theorem gwX12_byteAt_22 : GoodIn lw_all (wsV RX12 22 RX12 yX12_byteAt (ws_ yX12_byteAt cX12_byteAt 2 (some .int))) := lw_V q850 q852 qs11 q111 q853
theorem hdV_X12_now : yX12_now.cls = RX12 ∧ yX12_now.cls ≠ "java/lang/invoke/MethodHandle" ∧ yX12_now.cls ≠ "java/lang/invoke/VarHandle" ∧ (parseMethodDescriptor yX12_now.desc).map (fun d => d.parameters.length) = some 0 := by decide +kernel
theorem gwX12_now_26 : GoodIn lw_all (wsV RX12 26 RX12 yX12_now (ws_ yX12_now cX12_now 1 (some .int))) := lw_V q862 q847 q848 q111 q849
theorem hdS_X12_isSmall : yX12_isSmall.cls ≠ "java/lang/invoke/MethodHandle" ∧ yX12_isSmall.cls ≠ "java/lang/invoke/VarHandle" ∧ (parseMethodDescriptor yX12_isSmall.desc).map (fun d => d.parameters.length) = some 1 := by decide +kernel
theorem gwX12_isSmall_33 : GoodIn lw_all (va_wsS RX12 33 yX12_isSmall (ws_ yX12_isSmall cX12_isSmall 1 (some .boolean))) := lw_S q872 q873 q111 q874
theorem hdV_X12_place : yX12_place.cls = RX12 ∧ yX12_place.cls ≠ "java/lang/invoke/MethodHandle" ∧ yX12_place.cls ≠ "java/lang/invoke/VarHandle" ∧ (parseMethodDescriptor yX12_place.desc).map (fun d => d.parameters.length) = some 0 := by decide +kernel
theorem gwX12_place_30 : GoodIn lw_all (wsV RX12 30 RX12 yX12_place (ws_ yX12_place cX12_place 1 (some .int))) := lw_V q871 q859 q860 q111 q861
theorem hdV_X9_strongOf : yX9_strongOf.cls = RX9 ∧ yX9_strongOf.cls ≠ "java/lang/invoke/MethodHandle" ∧ yX9_strongOf.cls ≠ "java/lang/invoke/VarHandle" ∧ (parseMethodDescriptor yX9_strongOf.desc).map (fun d => d.parameters.length) = some 1 := by decide +kernel
theorem gwX9_strongOf_82 : GoodIn lw_all (wsV RX9 82 RX9 yX9_strongOf (ws_ yX9_strongOf cX9_strongOf 4 (some .int))) := lw_V q570 q571 q572 q104 q573
theorem hdV_X9_isRain : yX9_isRain.cls = RX9 ∧ yX9_isRain.cls ≠ "java/lang/invoke/MethodHandle" ∧ yX9_isRain.cls ≠ "java/lang/invoke/VarHandle" ∧ (parseMethodDescriptor yX9_isRain.desc).map (fun d => d.parameters.length) = some 1 := by decide +kernel
theorem gwX9_isRain_69 : GoodIn lw_all (wsV RX9 69 RX9 yX9_isRain (ws_ yX9_isRain cX9_isRain 3 (some .boolean))) := lw_V q637 q587 q588 q104 q589
theorem hdV_X9_chain : yX9_chain.cls = RX9 ∧ yX9_chain.cls ≠ "java/lang/invoke/MethodHandle" ∧ yX9_chain.cls ≠ "java/lang/invoke/VarHandle" ∧ (parseMethodDescriptor yX9_chain.desc).map (fun d => d.parameters.length) = some 1 := by decide +kernel
theorem gwX9_chain_85 : GoodIn lw_all (wsV RX9 85 RX9 yX9_chain (ws_ yX9_chain cX9_chain 4 (some .int))) := lw_V q1253 q1250 q1251 q104 q1252
theorem hdS_X1_power : yX1_power.cls ≠ "java/lang/invoke/MethodHandle" ∧ yX1_power.cls ≠ "java/lang/invoke/VarHandle" ∧ (parseMethodDescriptor yX1_power.desc).map (fun d => d.parameters.length) = some 2 := by decide +kernel
theorem gwX1_power_356 : GoodIn lw_all (va_wsS RX1 356 yX1_power (ws_ yX1_power cX1_power 5 (some .long))) := lw_S q1353 q1354 q96 q1355
theorem hdV_X7_tries : yX7_tries.cls = RX7 ∧ yX7_tries.cls ≠ "java/lang/invoke/MethodHandle" ∧ yX7_tries.cls ≠ "java/lang/invoke/VarHandle" ∧ (parseMethodDescriptor yX7_tries.desc).map (fun d => d.parameters.length) = some 3 := by decide +kernel
theorem gwX7_tries_32 : GoodIn lw_all (wsV RX7 32 RX7 yX7_tries (ws_ yX7_tries cX7_tries 5 none)) := lw_V q1411 q1413 qs32 q102 q1414
theorem hdS_X7_lacks : yX7_lacks.cls ≠ "java/lang/invoke/MethodHandle" ∧ yX7_lacks.cls ≠ "java/lang/invoke/VarHandle" ∧ (parseMethodDescriptor yX7_lacks.desc).map (fun d => d.parameters.length) = some 3 := by decide +kernel
theorem gwX7_lacks_39 : GoodIn lw_all (va_wsS RX7 39 yX7_lacks (ws_ yX7_lacks cX7_lacks 4 (some .int))) := lw_S q1415 q1416 q102 q1417
theorem hdV_X8_asks : yX8_asks.cls = RX8 ∧ yX8_asks.cls ≠ "java/lang/invoke/MethodHandle" ∧ yX8_asks.cls ≠ "java/lang/invoke/VarHandle" ∧ (parseMethodDescriptor yX8_asks.desc).map (fun d => d.parameters.length) = some 2 := by decide +kernel
theorem gwX8_asks_24 : GoodIn lw_all (wsV RX8 24 RX8 yX8_asks (ws_ yX8_asks cX8_asks 10 none)) := lw_V q1446 q1448 qs33 q103 q1449
theorem hdV_X1_weight : yX1_weight.cls = RX1 ∧ yX1_weight.cls ≠ "java/lang/invoke/MethodHandle" ∧ yX1_weight.cls ≠ "java/lang/invoke/VarHandle" ∧ (parseMethodDescriptor yX1_weight.desc).map (fun d => d.parameters.length) = some 3 := by decide +kernel
theorem gwX1_weight_407 : GoodIn lw_all (wsV RX1 407 RX1 yX1_weight (ws_ yX1_weight cX1_weight 7 (some .int))) := lw_V q666 q668 qs6 q96 q669
theorem hdV_X1_greatest : yX1_greatest.cls = RX1 ∧ yX1_greatest.cls ≠ "java/lang/invoke/MethodHandle" ∧ yX1_greatest.cls ≠ "java/lang/invoke/VarHandle" ∧ (parseMethodDescriptor yX1_greatest.desc).map (fun d => d.parameters.length) = some 2 := by decide +kernel
theorem gwX1_greatest_410 : GoodIn lw_all (wsV RX1 410 RX1 yX1_greatest (ws_ yX1_greatest cX1_greatest 5 (some .int))) := lw_V q674 q676 qs7 q96 q677
theorem hdV_X3_as : yX3_as.cls = RX3 ∧ yX3_as.cls ≠ "java/lang/invoke/MethodHandle" ∧ yX3_as.cls ≠ "java/lang/invoke/VarHandle" ∧ (parseMethodDescriptor yX3_as.desc).map (fun d => d.parameters.length) = some 1 := by decide +kernel
theorem gwX1_as_172 : GoodIn lw_all (wsV RX1 172 RX3 yX3_as (ws_ yX3_as cX3_as 2 (some (.object "RainWheel$Plan")))) := lw_V q683 q684 q685 q98 q686
theorem hdS_X3_flips : yX3_flips.cls ≠ "java/lang/invoke/MethodHandle" ∧ yX3_flips.cls ≠ "java/lang/invoke/VarHandle" ∧ (parseMethodDescriptor yX3_flips.desc).map (fun d => d.parameters.length) = some 3 := by decide +kernel
theorem gwX3_flips_62 : GoodIn lw_all (va_wsS RX3 62 yX3_flips (ws_ yX3_flips cX3_flips 4 none)) := lw_S q1505 q1506 q98 q1507
theorem hdV_X5_known : yX5_known.cls = RX5 ∧ yX5_known.cls ≠ "java/lang/invoke/MethodHandle" ∧ yX5_known.cls ≠ "java/lang/invoke/VarHandle" ∧ (parseMethodDescriptor yX5_known.desc).map (fun d => d.parameters.length) = some 1 := by decide +kernel
theorem gwX17_known_13 : GoodIn lw_all (wsV RX17 13 RX5 yX5_known (ws_ yX5_known cX5_known 2 (some .int))) := lw_V q610 q611 q612 q100 q613
set_option maxHeartbeats 4000000 in
theorem con_x_part (K : Nat → Nat) (hW : WFK K) (N : Nat) (g : GS) (l0 : Int) (l2 : Int) (l4 : Int) (r : Int) (h : x_part N l0 l2 l4 = some r) : Con yX1_part cX1_part 11 (some .long) 1 12 K (fun b => [vL l0, vL l2, vI l4]) g (fun _ => some (vL r)) g := by
  refine Con.of RX1 (by decide) rfl (fun b => Nat.le_of_ble_eq_true rfl) (fun x sz hX => ?_)
  have X := hX.1
  have LL6 : ∀ (l0 : Int) (l2 : Int) (l4 : Int) (n : Nat) (s : (Int × Int)) (e : (Int)), loopN (fun s => x_part_b6 N l0 l2 l4 s.1 s.2) n s = some e → V x 11 K 0 0 sz g 31 [(0, vL l0), (2, vL l2), (4, vI l4), (5, vL e)] [] → V x 11 K 0 0 sz g 6 [(0, vL l0), (2, vL l2), (4, vI l4), (5, vL s.1), (7, vL s.2)] [] := by
    intro l0 l2 l4 n s e
    refine loop_walk (P := fun s => V x 11 K 0 0 sz g 6 [(0, vL l0), (2, vL l2), (4, vI l4), (5, vL s.1), (7, vL s.2)] []) (E := fun e => V x 11 K 0 0 sz g 31 [(0, vL l0), (2, vL l2), (4, vI l4), (5, vL e)] []) ?_ n s e
    clear e s n
    rintro ⟨l5, l7⟩ q6 h hc6 he6
    replace h : x_part_b6 N l0 l2 l4 l5 l7 = some q6 := h
    unfold x_part_b6 at h
    show V x 11 K 0 0 sz g 6 [(0, vL l0), (2, vL l2), (4, vI l4), (5, vL l5), (7, vL l7)] []
    refine V_lload X dX1_part_6 4 rfl ?_
    refine V_lconst X (a := 0) dX1_part_8 (by decide) ?_
    refine V_lcmp X dX1_part_9 ?_
    refine V_if_eq (tgt := 31) X dX1_part_10 (by decide) h (fun h => ?_) (fun h => ?_)
    · exact V_sub [0, 1, 2, 3] rfl (he6 _ (Option.some.inj h).symm)
    · refine V_lload X dX1_part_13 3 rfl ?_
      refine V_lload X dX1_part_15 4 rfl ?_
      refine V_lrem X dX1_part_17 h (fun h => ?_)
      refine V_lstore X dX1_part_18 (by decide) (L' := [(9, vL (l_rem l5 l7)), (0, vL l0), (2, vL l2), (4, vI l4), (5, vL l5), (7, vL l7)]) rfl ?_
      refine V_lload X dX1_part_20 5 rfl ?_
      refine V_lstore X dX1_part_22 (by decide) (L' := [(5, vL l7), (9, vL (l_rem l5 l7)), (0, vL l0), (2, vL l2), (4, vI l4), (7, vL l7)]) rfl ?_
      refine V_lload X dX1_part_24 1 rfl ?_
      refine V_lstore X dX1_part_26 (by decide) (L' := [(7, vL (l_rem l5 l7)), (5, vL l7), (9, vL (l_rem l5 l7)), (0, vL l0), (2, vL l2), (4, vI l4)]) rfl ?_
      refine V_goto (tgt := 6) X dX1_part_28 (by decide) ?_
      exact V_sub [3, 4, 5, 1, 0] rfl (hc6 _ (Option.some.inj h).symm)
  unfold x_part at h
  show V x 11 K 0 0 sz g 0 [(0, vL l0), (2, vL l2), (4, vI l4)] []
  refine V_lload_n X dX1_part_0 1 rfl ?_
  refine V_lstore X dX1_part_1 (by decide) (L' := [(5, vL l2), (0, vL l0), (2, vL l2), (4, vI l4)]) rfl ?_
  refine V_lload_n X dX1_part_3 1 rfl ?_
  refine V_lstore X dX1_part_4 (by decide) (L' := [(7, vL l0), (5, vL l2), (0, vL l0), (2, vL l2), (4, vI l4)]) rfl ?_
  obtain ⟨t1, t1q, h⟩ := bind_some_eq h
  refine V_sub [2, 3, 4, 1, 0] rfl (LL6 l0 l2 l4 N (l2, l0) _ t1q ?_)
  refine V_iload X dX1_part_31 2 rfl ?_
  refine V_if_ne (tgt := 43) X dX1_part_33 (by decide) h (fun h => ?_) (fun h => ?_)
  · refine V_lload_n X dX1_part_43 1 rfl ?_
    refine V_lload X dX1_part_44 3 rfl ?_
    refine V_ldiv X dX1_part_46 h (fun h => ?_)
    have hr := Option.some.inj h
    subst hr
    exact V_end_l hX rfl dX1_part_47
  · refine V_lload_n X dX1_part_36 0 rfl ?_
    refine V_lload X dX1_part_37 3 rfl ?_
    refine V_ldiv X dX1_part_39 h (fun h => ?_)
    refine V_goto (tgt := 47) X dX1_part_40 (by decide) ?_
    have hr := Option.some.inj h
    subst hr
    exact V_end_l hX rfl dX1_part_47
set_option maxHeartbeats 4000000 in
theorem con_x_power (K : Nat → Nat) (hW : WFK K) (N : Nat) (g : GS) (l0 : Int) (l1 : Int) (r : Int) (h : x_power N l0 l1 = some r) : Con yX1_power cX1_power 5 (some .long) 1 12 K (fun b => [vI l0, vI l1]) g (fun _ => some (vL r)) g := by
  refine Con.of RX1 (by decide) rfl (fun b => Nat.le_of_ble_eq_true rfl) (fun x sz hX => ?_)
  have X := hX.1
  have LL5 : ∀ (l0 : Int) (l1 : Int) (n : Nat) (s : (Int × Int)) (e : Int), loopN (fun s => x_power_b5 N l0 l1 s.1 s.2) n s = some e → (e = r) → V x 5 K 0 0 sz g 5 [(0, vI l0), (1, vI l1), (2, vL s.1), (4, vI s.2)] [] := by
    intro l0 l1 n s e
    refine loop_walk (P := fun s => V x 5 K 0 0 sz g 5 [(0, vI l0), (1, vI l1), (2, vL s.1), (4, vI s.2)] []) (E := fun e => e = r) ?_ n s e
    clear e s n
    rintro ⟨l2, l4⟩ q5 h hc5 he5
    replace h : x_power_b5 N l0 l1 l2 l4 = some q5 := h
    unfold x_power_b5 at h
    show V x 5 K 0 0 sz g 5 [(0, vI l0), (1, vI l1), (2, vL l2), (4, vI l4)] []
    refine V_iload X dX1_power_5 3 rfl ?_
    refine V_iload_n X dX1_power_7 1 rfl ?_
    refine V_icmp_ge (tgt := 22) X dX1_power_8 (by decide) h (fun h => ?_) (fun h => ?_)
    · obtain ⟨e1, h, e1q⟩ := outR_some h
      replace h := h.trans (congrArg some (he5 _ e1q))
      refine V_lload_n X dX1_power_22 2 rfl ?_
      have hr := Option.some.inj h
      subst hr
      exact V_end_l hX rfl dX1_power_23
    · refine V_lload_n X dX1_power_11 2 rfl ?_
      refine V_iload_n X dX1_power_12 0 rfl ?_
      refine V_i2l X dX1_power_13 ?_
      refine V_lmul X dX1_power_14 ?_
      refine V_lstore_n X dX1_power_15 (by decide) (L' := [(2, vL (l2 * (w32 l0))), (0, vI l0), (1, vI l1), (4, vI l4)]) rfl ?_
      refine V_iinc X dX1_power_16 3 rfl (by decide) (L' := [(4, vI (l4 + 1)), (2, vL (l2 * (w32 l0))), (0, vI l0), (1, vI l1)]) rfl ?_
      refine V_goto (tgt := 5) X dX1_power_19 (by decide) ?_
      exact V_sub [2, 3, 1, 0] rfl (hc5 _ (Option.some.inj h).symm)
  unfold x_power at h
  show V x 5 K 0 0 sz g 0 [(0, vI l0), (1, vI l1)] []
  refine V_lconst X (a := 1) dX1_power_0 (by decide) ?_
  refine V_lstore_n X dX1_power_1 (by decide) (L' := [(2, vL 1), (0, vI l0), (1, vI l1)]) rfl ?_
  refine V_iconst X dX1_power_2 ?_
  refine V_istore X dX1_power_3 (by decide) (L' := [(4, vI 0), (2, vL 1), (0, vI l0), (1, vI l1)]) rfl ?_
  exact V_sub [2, 3, 1, 0] rfl (LL5 l0 l1 N (1, 0) _ h rfl)
set_option maxHeartbeats 4000000 in
theorem con_xReader_byteAt (K : Nat → Nat) (hW : WFK K) (o : Nat) (hK0 : K o = 12) (g : GS) (l1 : Int) (r : Int) (h : xReader_byteAt o g l1 = some r) : Con yX12_byteAt cX12_byteAt 2 (some .int) 1 12 K (fun b => [.ref (b + o), vI l1]) g (fun _ => some (vI r)) g := by
  refine Con.of RX12 (by decide) rfl (fun b => Nat.le_of_ble_eq_true rfl) (fun x sz hX => ?_)
  have X := hX.1
  unfold xReader_byteAt at h
  show V x 2 K 0 0 sz g 0 [(0, .ref (xb x + o)), (1, vI l1)] []
  refine V_iload_n X dX12_byteAt_0 1 rfl ?_
  refine V_aload_n X dX12_byteAt_1 0 rfl ?_
  refine V_get (ci := 11) (N := 4) (C := RX12) (T := TX12) (o := o) (j := 1) X rfl in_X12 (by decide) hK0 (by decide) q797 (fv_0 rfl) dX12_byteAt_2 ?_
  refine V_icmp_ge (tgt := 21) X dX12_byteAt_5 (by decide) h (fun h => ?_) (fun h => ?_)
  · refine V_iconst X dX12_byteAt_21 ?_
    have hr := Option.some.inj h
    subst hr
    exact V_end_i hX rfl dX12_byteAt_22
  · refine V_aload_n X dX12_byteAt_8 0 rfl ?_
    refine V_get (ci := 11) (N := 4) (C := RX12) (T := TX12) (o := o) (j := 0) X rfl in_X12 (by decide) hK0 (by decide) q796 (fv_2 (i := 1) rfl rfl) dX12_byteAt_9 ?_
    refine V_iload_n X dX12_byteAt_12 1 rfl ?_
    refine V_bald X (o := 1) (n := 600) (hW.at 1 rfl) (by decide) dX12_byteAt_13 h (fun v13 h => ?_)
    refine V_sipush X dX12_byteAt_14 (by decide) ?_
    refine V_iand X dX12_byteAt_17 ?_
    refine V_goto (tgt := 22) X dX12_byteAt_18 (by decide) ?_
    have hr := Option.some.inj h
    subst hr
    exact V_end_i hX rfl dX12_byteAt_22
set_option maxHeartbeats 4000000 in
theorem con_xReader_now (K : Nat → Nat) (hW : WFK K) (N : Nat) (o : Nat) (hK0 : K o = 12) (g : GS) (r : (Int × GS)) (h : xReader_now N o g = some r) : Con yX12_now cX12_now 1 (some .int) 2 33 K (fun b => [.ref (b + o)]) g (fun _ => some (vI r.1)) r.2 := by
  refine Con.of RX12 (by decide) rfl (fun b => Nat.le_of_ble_eq_true rfl) (fun x sz hX => ?_)
  have X := hX.1
  have LL0 : ∀  (n : Nat) (s : (GS)) (e : (GS)), loopN (fun s => xReader_now_b0 N o s) n s = some e → V x 1 K 0 0 sz e 26 [(0, .ref (xb x + o))] [] → V x 1 K 0 0 sz s 0 [(0, .ref (xb x + o))] [] := by
    intro  n s e
    refine loop_walk (P := fun s => V x 1 K 0 0 sz s 0 [(0, .ref (xb x + o))] []) (E := fun e => V x 1 K 0 0 sz e 26 [(0, .ref (xb x + o))] []) ?_ n s e
    clear e s n
    rintro g q0 h hc0 he0
    replace h : xReader_now_b0 N o g = some q0 := h
    unfold xReader_now_b0 at h
    show V x 1 K 0 0 sz g 0 [(0, .ref (xb x + o))] []
    refine V_aload_n X dX12_now_0 0 rfl ?_
    refine V_aload_n X dX12_now_1 0 rfl ?_
    refine V_get (ci := 11) (N := 4) (C := RX12) (T := TX12) (o := o) (j := 2) X rfl in_X12 (by decide) hK0 (by decide) q798 (fv_0 rfl) dX12_now_2 ?_
    obtain ⟨c5, hc5, h⟩ := bind_some_eq h
    refine V_callV (ci := 11) (N := 4) (T := TX12) (As := [vI (gI g 1102 o)]) (rest := []) (s1 := [vI c5]) (o := o) X (con_xReader_byteAt K hW o hK0 g (gI g 1102 o) c5 hc5) gwX12_byteAt_22 hdV_X12_byteAt (by decide) rfl (by decide) hK0 rfl rfl (Nat.le_of_ble_eq_true rfl) ⟨Nat.zero_le _, Nat.zero_le _⟩ dX12_now_5 rfl rfl ?_
    refine V_bipush X dX12_now_8 (by decide) ?_
    refine V_icmp_ne (tgt := 26) X dX12_now_10 (by decide) h (fun h => ?_) (fun h => ?_)
    · exact V_sub [0] rfl (he0 _ (Option.some.inj h).symm)
    · refine V_aload_n X dX12_now_13 0 rfl ?_
      refine V_dup X dX12_now_14 rfl ?_
      refine V_get (ci := 11) (N := 4) (C := RX12) (T := TX12) (o := o) (j := 2) X rfl in_X12 (by decide) hK0 (by decide) q798 (fv_0 rfl) dX12_now_15 ?_
      refine V_iconst X dX12_now_18 ?_
      refine V_iadd X dX12_now_19 ?_
      refine V_put (ty := .int) (ci := 11) (N := 4) (C := RX12) (T := TX12) (o := o) (j := 2) (a := ((gI g 1102 o) + 1)) X rfl in_X12 tyX12 tyX12_ok nmX12 (by decide) hK0 (by decide) rfl pfd_I rfl rfl q798 (by rw [fv_0 rfl, gI_sI, if_pos ⟨rfl, rfl⟩]) dX12_now_20 ?_
      refine V_goto (tgt := 0) X dX12_now_23 (by decide) ?_
      exact V_sub [0] rfl (hc0 _ (Option.some.inj h).symm)
  unfold xReader_now at h
  show V x 1 K 0 0 sz g 0 [(0, .ref (xb x + o))] []
  obtain ⟨t1, t1q, h⟩ := bind_some_eq h
  refine V_sub [0] rfl (LL0 N g _ t1q ?_)
  refine V_aload_n X dX12_now_26 0 rfl ?_
  refine V_aload_n X dX12_now_27 0 rfl ?_
  refine V_get (ci := 11) (N := 4) (C := RX12) (T := TX12) (o := o) (j := 2) X rfl in_X12 (by decide) hK0 (by decide) q798 (fv_0 rfl) dX12_now_28 ?_
  obtain ⟨c31, hc31, h⟩ := bind_some_eq h
  refine V_callV (ci := 11) (N := 4) (T := TX12) (As := [vI (gI t1 1102 o)]) (rest := []) (s1 := [vI c31]) (o := o) X (con_xReader_byteAt K hW o hK0 t1 (gI t1 1102 o) c31 hc31) gwX12_byteAt_22 hdV_X12_byteAt (by decide) rfl (by decide) hK0 rfl rfl (Nat.le_of_ble_eq_true rfl) ⟨Nat.zero_le _, Nat.zero_le _⟩ dX12_now_31 rfl rfl ?_
  have hr := Option.some.inj h
  subst hr
  exact V_end_i hX rfl dX12_now_34
set_option maxHeartbeats 4000000 in
theorem con_xReader_place (K : Nat → Nat) (hW : WFK K) (N : Nat) (o : Nat) (hK0 : K o = 12) (g : GS) (r : (Int × GS)) (h : xReader_place N o g = some r) : Con yX12_place cX12_place 1 (some .int) 3 53 K (fun b => [.ref (b + o)]) g (fun _ => some (vI r.1)) r.2 := by
  refine Con.of RX12 (by decide) rfl (fun b => Nat.le_of_ble_eq_true rfl) (fun x sz hX => ?_)
  have X := hX.1
  unfold xReader_place at h
  show V x 1 K 0 0 sz g 0 [(0, .ref (xb x + o))] []
  refine V_aload_n X dX12_place_0 0 rfl ?_
  obtain ⟨c1, hc1, h⟩ := bind_some_eq h
  refine V_callV (ci := 11) (N := 4) (T := TX12) (As := []) (rest := []) (s1 := [vI c1.1]) (o := o) X (con_xReader_now K hW N o hK0 g c1 hc1) gwX12_now_26 hdV_X12_now (by decide) rfl (by decide) hK0 rfl rfl (Nat.le_of_ble_eq_true rfl) ⟨Nat.zero_le _, Nat.zero_le _⟩ dX12_place_1 rfl rfl ?_
  refine V_pop X dX12_place_4 rfl ?_
  refine V_aload_n X dX12_place_5 0 rfl ?_
  refine V_get (ci := 11) (N := 4) (C := RX12) (T := TX12) (o := o) (j := 2) X rfl in_X12 (by decide) hK0 (by decide) q798 (fv_0 rfl) dX12_place_6 ?_
  have hr := Option.some.inj h
  subst hr
  exact V_end_i hX rfl dX12_place_9
set_option maxHeartbeats 4000000 in
theorem con_xReader_isSmall (K : Nat → Nat) (hW : WFK K) (g : GS) (l0 : Int) (r : Int) (h : xReader_isSmall l0 = some r) : Con yX12_isSmall cX12_isSmall 1 (some .boolean) 1 12 K (fun b => [vI l0]) g (fun _ => some (vI r)) g := by
  refine Con.of RX12 (by decide) rfl (fun b => Nat.le_of_ble_eq_true rfl) (fun x sz hX => ?_)
  have X := hX.1
  unfold xReader_isSmall at h
  show V x 1 K 0 0 sz g 0 [(0, vI l0)] []
  refine V_iload_n X dX12_isSmall_0 0 rfl ?_
  refine V_bipush X dX12_isSmall_1 (by decide) ?_
  refine V_icmp_lt (tgt := 16) X dX12_isSmall_3 (by decide) h (fun h => ?_) (fun h => ?_)
  · refine V_iconst X dX12_isSmall_16 ?_
    have hr := Option.some.inj h
    subst hr
    exact V_end_z hX (Or.inl rfl) rfl dX12_isSmall_17
  · refine V_iload_n X dX12_isSmall_6 0 rfl ?_
    refine V_bipush X dX12_isSmall_7 (by decide) ?_
    refine V_icmp_gt (tgt := 16) X dX12_isSmall_9 (by decide) h (fun h => ?_) (fun h => ?_)
    · refine V_iconst X dX12_isSmall_16 ?_
      have hr := Option.some.inj h
      subst hr
      exact V_end_z hX (Or.inl rfl) rfl dX12_isSmall_17
    · refine V_iconst X dX12_isSmall_12 ?_
      refine V_goto (tgt := 17) X dX12_isSmall_13 (by decide) ?_
      have hr := Option.some.inj h
      subst hr
      exact V_end_z hX (Or.inr rfl) rfl dX12_isSmall_17
set_option maxHeartbeats 4000000 in
theorem con_xReader_isWord (K : Nat → Nat) (hW : WFK K) (N : Nat) (o : Nat) (hK0 : K o = 12) (sa1 : Nat) (t1 : List Int) (ht1 : asc t1 ∧ t1.length < 1000) (g : GS) (r : (Int × GS)) (h : xReader_isWord N o t1 g = some r) : ConE yX12_isWord cX12_isWord 5 (some .boolean) 6 170 K (fun b => [.ref (b + o), .ref sa1]) (fun b => STR b sa1 t1) g (fun _ => some (vI r.1)) r.2 := by
  refine ConE.of RX12 (by decide) rfl (fun b => Nat.le_of_ble_eq_true rfl) (fun x sz hX hE => ?_)
  have X := hX.1
  have LL39 : ∀ (g : GS) (l2 : Int) (l3 : Int) (n : Nat) (s : (Int)) (e : (Int × GS)), loopN (fun s => xReader_isWord_b39 N o t1 g l2 l3 s) n s = some e → (e = r) → V x 5 K 0 0 sz g 39 [(0, .ref (xb x + o)), (1, .ref sa1), (2, vI l2), (3, vI l3), (4, vI s)] [] := by
    intro g l2 l3 n s e
    refine loop_walk (P := fun s => V x 5 K 0 0 sz g 39 [(0, .ref (xb x + o)), (1, .ref sa1), (2, vI l2), (3, vI l3), (4, vI s)] []) (E := fun e => e = r) ?_ n s e
    clear e s n
    rintro l4 q39 h hc39 he39
    replace h : xReader_isWord_b39 N o t1 g l2 l3 l4 = some q39 := h
    unfold xReader_isWord_b39 at h
    show V x 5 K 0 0 sz g 39 [(0, .ref (xb x + o)), (1, .ref sa1), (2, vI l2), (3, vI l3), (4, vI l4)] []
    refine V_iload X dX12_isWord_39 4 rfl ?_
    refine V_iload_n X dX12_isWord_41 3 rfl ?_
    refine V_icmp_ge (tgt := 70) X dX12_isWord_42 (by decide) h (fun h => ?_) (fun h => ?_)
    · obtain ⟨e1, h, e1q⟩ := outR_some h
      replace h := h.trans (congrArg some (he39 _ e1q))
      refine V_iconst X dX12_isWord_70 ?_
      have hr := Option.some.inj h
      subst hr
      exact V_end_z hX (Or.inr rfl) rfl dX12_isWord_71
    · refine V_aload_n X dX12_isWord_45 0 rfl ?_
      refine V_iload_n X dX12_isWord_46 2 rfl ?_
      refine V_iload X dX12_isWord_47 4 rfl ?_
      refine V_iadd X dX12_isWord_49 ?_
      obtain ⟨c50, hc50, h⟩ := bind_some_eq h
      refine V_callV (ci := 11) (N := 4) (T := TX12) (As := [vI (l2 + l4)]) (rest := []) (s1 := [vI c50]) (o := o) X (con_xReader_byteAt K hW o hK0 g (l2 + l4) c50 hc50) gwX12_byteAt_22 hdV_X12_byteAt (by decide) rfl (by decide) hK0 rfl rfl (Nat.le_of_ble_eq_true rfl) ⟨Nat.zero_le _, Nat.zero_le _⟩ dX12_isWord_50 rfl rfl ?_
      refine V_aload_n X dX12_isWord_53 1 rfl ?_
      refine V_iload X dX12_isWord_54 4 rfl ?_
      refine V_charAt X hE ht1 q885 (by decide) (Nat.le_of_ble_eq_true rfl) ⟨Nat.zero_le _, Nat.zero_le _⟩ dX12_isWord_56 h (fun v56 h => ?_)
      refine V_icmp_eq (tgt := 64) X dX12_isWord_59 (by decide) h (fun h => ?_) (fun h => ?_)
      · refine V_iinc X dX12_isWord_64 4 rfl (by decide) (L' := [(4, vI (l4 + 1)), (0, .ref (xb x + o)), (1, .ref sa1), (2, vI l2), (3, vI l3)]) rfl ?_
        refine V_goto (tgt := 39) X dX12_isWord_67 (by decide) ?_
        exact V_sub [1, 2, 3, 4, 0] rfl (hc39 _ (Option.some.inj h).symm)
      · obtain ⟨e2, h, e2q⟩ := outR_some h
        replace h := h.trans (congrArg some (he39 _ e2q))
        refine V_iconst X dX12_isWord_62 ?_
        have hr := Option.some.inj h
        subst hr
        exact V_end_z hX (Or.inl rfl) rfl dX12_isWord_63
  have LL7 : ∀ (g : GS) (l2 : Int) (n : Nat) (s : (Int)) (e : (Int)), loopN (fun s => xReader_isWord_b7 N o t1 g l2 s) n s = some e → V x 5 K 0 0 sz g 26 [(0, .ref (xb x + o)), (1, .ref sa1), (2, vI l2), (3, vI e)] [] → V x 5 K 0 0 sz g 7 [(0, .ref (xb x + o)), (1, .ref sa1), (2, vI l2), (3, vI s)] [] := by
    intro g l2 n s e
    refine loop_walk (P := fun s => V x 5 K 0 0 sz g 7 [(0, .ref (xb x + o)), (1, .ref sa1), (2, vI l2), (3, vI s)] []) (E := fun e => V x 5 K 0 0 sz g 26 [(0, .ref (xb x + o)), (1, .ref sa1), (2, vI l2), (3, vI e)] []) ?_ n s e
    clear e s n
    rintro l3 q7 h hc7 he7
    replace h : xReader_isWord_b7 N o t1 g l2 l3 = some q7 := h
    unfold xReader_isWord_b7 at h
    show V x 5 K 0 0 sz g 7 [(0, .ref (xb x + o)), (1, .ref sa1), (2, vI l2), (3, vI l3)] []
    refine V_aload_n X dX12_isWord_7 0 rfl ?_
    refine V_iload_n X dX12_isWord_8 2 rfl ?_
    refine V_iload_n X dX12_isWord_9 3 rfl ?_
    refine V_iadd X dX12_isWord_10 ?_
    obtain ⟨c11, hc11, h⟩ := bind_some_eq h
    refine V_callV (ci := 11) (N := 4) (T := TX12) (As := [vI (l2 + l3)]) (rest := []) (s1 := [vI c11]) (o := o) X (con_xReader_byteAt K hW o hK0 g (l2 + l3) c11 hc11) gwX12_byteAt_22 hdV_X12_byteAt (by decide) rfl (by decide) hK0 rfl rfl (Nat.le_of_ble_eq_true rfl) ⟨Nat.zero_le _, Nat.zero_le _⟩ dX12_isWord_11 rfl rfl ?_
    obtain ⟨c14, hc14, h⟩ := bind_some_eq h
    refine V_callS (As := [vI c11]) (rest := []) (s1 := [vI c14]) X (con_xReader_isSmall K hW g c11 c14 hc14) gwX12_isSmall_33 hdS_X12_isSmall (by decide) rfl rfl (Nat.le_of_ble_eq_true rfl) ⟨Nat.zero_le _, Nat.zero_le _⟩ dX12_isWord_14 rfl rfl ?_
    refine V_if_eq (tgt := 26) X dX12_isWord_17 (by decide) h (fun h => ?_) (fun h => ?_)
    · exact V_sub [0, 1, 2, 3] rfl (he7 _ (Option.some.inj h).symm)
    · refine V_iinc X dX12_isWord_20 3 rfl (by decide) (L' := [(3, vI (l3 + 1)), (0, .ref (xb x + o)), (1, .ref sa1), (2, vI l2)]) rfl ?_
      refine V_goto (tgt := 7) X dX12_isWord_23 (by decide) ?_
      exact V_sub [1, 2, 3, 0] rfl (hc7 _ (Option.some.inj h).symm)
  unfold xReader_isWord at h
  show V x 5 K 0 0 sz g 0 [(0, .ref (xb x + o)), (1, .ref sa1)] []
  refine V_aload_n X dX12_isWord_0 0 rfl ?_
  obtain ⟨c1, hc1, h⟩ := bind_some_eq h
  refine V_callV (ci := 11) (N := 4) (T := TX12) (As := []) (rest := []) (s1 := [vI c1.1]) (o := o) X (con_xReader_place K hW N o hK0 g c1 hc1) gwX12_place_30 hdV_X12_place (by decide) rfl (by decide) hK0 rfl rfl (Nat.le_of_ble_eq_true rfl) ⟨Nat.zero_le _, Nat.zero_le _⟩ dX12_isWord_1 rfl rfl ?_
  refine V_istore_n X dX12_isWord_4 (by decide) (L' := [(2, vI c1.1), (0, .ref (xb x + o)), (1, .ref sa1)]) rfl ?_
  refine V_iconst X dX12_isWord_5 ?_
  refine V_istore_n X dX12_isWord_6 (by decide) (L' := [(3, vI 0), (2, vI c1.1), (0, .ref (xb x + o)), (1, .ref sa1)]) rfl ?_
  obtain ⟨t3, t3q, h⟩ := bind_some_eq h
  refine V_sub [2, 3, 1, 0] rfl (LL7 c1.2 c1.1 N 0 _ t3q ?_)
  refine V_iload_n X dX12_isWord_26 3 rfl ?_
  refine V_aload_n X dX12_isWord_27 1 rfl ?_
  refine V_strlen X hE q875 (by decide) (Nat.le_of_ble_eq_true rfl) ⟨Nat.zero_le _, Nat.zero_le _⟩ dX12_isWord_28 ?_
  refine V_icmp_eq (tgt := 36) X dX12_isWord_31 (by decide) h (fun h => ?_) (fun h => ?_)
  · refine V_iconst X dX12_isWord_36 ?_
    refine V_istore X dX12_isWord_37 (by decide) (L' := [(4, vI 0), (0, .ref (xb x + o)), (1, .ref sa1), (2, vI c1.1), (3, vI t3)]) rfl ?_
    exact V_sub [1, 2, 3, 4, 0] rfl (LL39 c1.2 c1.1 t3 N 0 _ h rfl)
  · refine V_iconst X dX12_isWord_34 ?_
    have hr := Option.some.inj h
    subst hr
    exact V_end_z hX (Or.inl rfl) rfl dX12_isWord_35
set_option maxHeartbeats 4000000 in
theorem con_xRoadReader_isFull (K : Nat → Nat) (hW : WFK K) (o : Nat) (hK0 : K o = 11) (g : GS) (l1 : Int) (r : Int) (h : xRoadReader_isFull o g l1 = some r) : Con yX11_isFull cX11_isFull 2 (some .boolean) 1 12 K (fun b => [.ref (b + o), vI l1]) g (fun _ => some (vI r)) g := by
  refine Con.of RX11 (by decide) rfl (fun b => Nat.le_of_ble_eq_true rfl) (fun x sz hX => ?_)
  have X := hX.1
  have J83 : ∀ (l1 : Int), xRoadReader_isFull_j83 o g l1 = some r → V x 2 K 0 0 sz g 83 [(0, .ref (xb x + o)), (1, vI l1)] [] := by
    intro l1 h
    unfold xRoadReader_isFull_j83 at h
    refine V_iload_n X dX11_isFull_83 1 rfl ?_
    refine V_iconst X dX11_isFull_84 ?_
    refine V_icmp_ne (tgt := 103) X dX11_isFull_85 (by decide) h (fun h => ?_) (fun h => ?_)
    · refine V_iconst X dX11_isFull_103 ?_
      have hr := Option.some.inj h
      subst hr
      exact V_end_z hX (Or.inl rfl) rfl dX11_isFull_104
    · refine V_aload_n X dX11_isFull_88 0 rfl ?_
      refine V_get (ci := 10) (N := 4) (C := RX11) (T := TX11) (o := o) (j := 2) X rfl in_X11 (by decide) hK0 (by decide) q831 (fv_1 (i := (o + 3)) rfl rfl) dX11_isFull_89 ?_
      refine V_getN (ci := 8) (N := 24) (C := RX9) (T := TX9) (o := (o + 3)) (j := 18) X rfl in_X9 (by decide) (hW.blk (by decide) hK0 3 (by decide) rfl) (by decide) q412 (fv_0 rfl) dX11_isFull_92 ?_
      refine V_iconst X dX11_isFull_95 ?_
      refine V_icmp_ne (tgt := 103) X dX11_isFull_96 (by decide) h (fun h => ?_) (fun h => ?_)
      · refine V_iconst X dX11_isFull_103 ?_
        have hr := Option.some.inj h
        subst hr
        exact V_end_z hX (Or.inl rfl) rfl dX11_isFull_104
      · refine V_iconst X dX11_isFull_99 ?_
        refine V_goto (tgt := 104) X dX11_isFull_100 (by decide) ?_
        have hr := Option.some.inj h
        subst hr
        exact V_end_z hX (Or.inr rfl) rfl dX11_isFull_104
  have J66 : ∀ (l1 : Int), xRoadReader_isFull_j66 o g l1 = some r → V x 2 K 0 0 sz g 66 [(0, .ref (xb x + o)), (1, vI l1)] [] := by
    intro l1 h
    unfold xRoadReader_isFull_j66 at h
    refine V_iload_n X dX11_isFull_66 1 rfl ?_
    refine V_iconst X dX11_isFull_67 ?_
    refine V_icmp_ne (tgt := 83) X dX11_isFull_68 (by decide) h (fun h => ?_) (fun h => ?_)
    · exact V_sub [0, 1] rfl (J83 _ h)
    · refine V_aload_n X dX11_isFull_71 0 rfl ?_
      refine V_get (ci := 10) (N := 4) (C := RX11) (T := TX11) (o := o) (j := 2) X rfl in_X11 (by decide) hK0 (by decide) q831 (fv_1 (i := (o + 3)) rfl rfl) dX11_isFull_72 ?_
      refine V_getN (ci := 8) (N := 24) (C := RX9) (T := TX9) (o := (o + 3)) (j := 17) X rfl in_X9 (by decide) (hW.blk (by decide) hK0 3 (by decide) rfl) (by decide) q410 (fv_0 rfl) dX11_isFull_75 ?_
      refine V_bipush X dX11_isFull_78 (by decide) ?_
      refine V_icmp_eq (tgt := 99) X dX11_isFull_80 (by decide) h (fun h => ?_) (fun h => ?_)
      · refine V_iconst X dX11_isFull_99 ?_
        refine V_goto (tgt := 104) X dX11_isFull_100 (by decide) ?_
        have hr := Option.some.inj h
        subst hr
        exact V_end_z hX (Or.inr rfl) rfl dX11_isFull_104
      · exact V_sub [0, 1] rfl (J83 _ h)
  have J49 : ∀ (l1 : Int), xRoadReader_isFull_j49 o g l1 = some r → V x 2 K 0 0 sz g 49 [(0, .ref (xb x + o)), (1, vI l1)] [] := by
    intro l1 h
    unfold xRoadReader_isFull_j49 at h
    refine V_iload_n X dX11_isFull_49 1 rfl ?_
    refine V_iconst X dX11_isFull_50 ?_
    refine V_icmp_ne (tgt := 66) X dX11_isFull_51 (by decide) h (fun h => ?_) (fun h => ?_)
    · exact V_sub [0, 1] rfl (J66 _ h)
    · refine V_aload_n X dX11_isFull_54 0 rfl ?_
      refine V_get (ci := 10) (N := 4) (C := RX11) (T := TX11) (o := o) (j := 2) X rfl in_X11 (by decide) hK0 (by decide) q831 (fv_1 (i := (o + 3)) rfl rfl) dX11_isFull_55 ?_
      refine V_getN (ci := 8) (N := 24) (C := RX9) (T := TX9) (o := (o + 3)) (j := 16) X rfl in_X9 (by decide) (hW.blk (by decide) hK0 3 (by decide) rfl) (by decide) q407 (fv_0 rfl) dX11_isFull_58 ?_
      refine V_bipush X dX11_isFull_61 (by decide) ?_
      refine V_icmp_eq (tgt := 99) X dX11_isFull_63 (by decide) h (fun h => ?_) (fun h => ?_)
      · refine V_iconst X dX11_isFull_99 ?_
        refine V_goto (tgt := 104) X dX11_isFull_100 (by decide) ?_
        have hr := Option.some.inj h
        subst hr
        exact V_end_z hX (Or.inr rfl) rfl dX11_isFull_104
      · exact V_sub [0, 1] rfl (J66 _ h)
  have J32 : ∀ (l1 : Int), xRoadReader_isFull_j32 o g l1 = some r → V x 2 K 0 0 sz g 32 [(0, .ref (xb x + o)), (1, vI l1)] [] := by
    intro l1 h
    unfold xRoadReader_isFull_j32 at h
    refine V_iload_n X dX11_isFull_32 1 rfl ?_
    refine V_iconst X dX11_isFull_33 ?_
    refine V_icmp_ne (tgt := 49) X dX11_isFull_34 (by decide) h (fun h => ?_) (fun h => ?_)
    · exact V_sub [0, 1] rfl (J49 _ h)
    · refine V_aload_n X dX11_isFull_37 0 rfl ?_
      refine V_get (ci := 10) (N := 4) (C := RX11) (T := TX11) (o := o) (j := 2) X rfl in_X11 (by decide) hK0 (by decide) q831 (fv_1 (i := (o + 3)) rfl rfl) dX11_isFull_38 ?_
      refine V_getN (ci := 8) (N := 24) (C := RX9) (T := TX9) (o := (o + 3)) (j := 15) X rfl in_X9 (by decide) (hW.blk (by decide) hK0 3 (by decide) rfl) (by decide) q406 (fv_0 rfl) dX11_isFull_41 ?_
      refine V_bipush X dX11_isFull_44 (by decide) ?_
      refine V_icmp_eq (tgt := 99) X dX11_isFull_46 (by decide) h (fun h => ?_) (fun h => ?_)
      · refine V_iconst X dX11_isFull_99 ?_
        refine V_goto (tgt := 104) X dX11_isFull_100 (by decide) ?_
        have hr := Option.some.inj h
        subst hr
        exact V_end_z hX (Or.inr rfl) rfl dX11_isFull_104
      · exact V_sub [0, 1] rfl (J49 _ h)
  have J15 : ∀ (l1 : Int), xRoadReader_isFull_j15 o g l1 = some r → V x 2 K 0 0 sz g 15 [(0, .ref (xb x + o)), (1, vI l1)] [] := by
    intro l1 h
    unfold xRoadReader_isFull_j15 at h
    refine V_iload_n X dX11_isFull_15 1 rfl ?_
    refine V_iconst X dX11_isFull_16 ?_
    refine V_icmp_ne (tgt := 32) X dX11_isFull_17 (by decide) h (fun h => ?_) (fun h => ?_)
    · exact V_sub [0, 1] rfl (J32 _ h)
    · refine V_aload_n X dX11_isFull_20 0 rfl ?_
      refine V_get (ci := 10) (N := 4) (C := RX11) (T := TX11) (o := o) (j := 2) X rfl in_X11 (by decide) hK0 (by decide) q831 (fv_1 (i := (o + 3)) rfl rfl) dX11_isFull_21 ?_
      refine V_getN (ci := 8) (N := 24) (C := RX9) (T := TX9) (o := (o + 3)) (j := 14) X rfl in_X9 (by decide) (hW.blk (by decide) hK0 3 (by decide) rfl) (by decide) q401 (fv_0 rfl) dX11_isFull_24 ?_
      refine V_bipush X dX11_isFull_27 (by decide) ?_
      refine V_icmp_eq (tgt := 99) X dX11_isFull_29 (by decide) h (fun h => ?_) (fun h => ?_)
      · refine V_iconst X dX11_isFull_99 ?_
        refine V_goto (tgt := 104) X dX11_isFull_100 (by decide) ?_
        have hr := Option.some.inj h
        subst hr
        exact V_end_z hX (Or.inr rfl) rfl dX11_isFull_104
      · exact V_sub [0, 1] rfl (J32 _ h)
  unfold xRoadReader_isFull at h
  show V x 2 K 0 0 sz g 0 [(0, .ref (xb x + o)), (1, vI l1)] []
  refine V_iload_n X dX11_isFull_0 1 rfl ?_
  refine V_if_ne (tgt := 15) X dX11_isFull_1 (by decide) h (fun h => ?_) (fun h => ?_)
  · exact V_sub [0, 1] rfl (J15 _ h)
  · refine V_aload_n X dX11_isFull_4 0 rfl ?_
    refine V_get (ci := 10) (N := 4) (C := RX11) (T := TX11) (o := o) (j := 2) X rfl in_X11 (by decide) hK0 (by decide) q831 (fv_1 (i := (o + 3)) rfl rfl) dX11_isFull_5 ?_
    refine V_getN (ci := 8) (N := 24) (C := RX9) (T := TX9) (o := (o + 3)) (j := 13) X rfl in_X9 (by decide) (hW.blk (by decide) hK0 3 (by decide) rfl) (by decide) q395 (fv_0 rfl) dX11_isFull_8 ?_
    refine V_iconst X dX11_isFull_11 ?_
    refine V_icmp_eq (tgt := 99) X dX11_isFull_12 (by decide) h (fun h => ?_) (fun h => ?_)
    · refine V_iconst X dX11_isFull_99 ?_
      refine V_goto (tgt := 104) X dX11_isFull_100 (by decide) ?_
      have hr := Option.some.inj h
      subst hr
      exact V_end_z hX (Or.inr rfl) rfl dX11_isFull_104
    · exact V_sub [0, 1] rfl (J15 _ h)
set_option maxHeartbeats 4000000 in
theorem con_xReader_skipsWord (K : Nat → Nat) (hW : WFK K) (N : Nat) (o : Nat) (hK0 : K o = 12) (g : GS) (r : GS) (h : xReader_skipsWord N o g = some r) : Con yX12_skipsWord cX12_skipsWord 1 none 2 33 K (fun b => [.ref (b + o)]) g (fun _ => none) r := by
  refine Con.of RX12 (by decide) rfl (fun b => Nat.le_of_ble_eq_true rfl) (fun x sz hX => ?_)
  have X := hX.1
  have LL0 : ∀  (n : Nat) (s : (GS)) (e : GS), loopN (fun s => xReader_skipsWord_b0 N o s) n s = some e → (e = r) → V x 1 K 0 0 sz s 0 [(0, .ref (xb x + o))] [] := by
    intro  n s e
    refine loop_walk (P := fun s => V x 1 K 0 0 sz s 0 [(0, .ref (xb x + o))] []) (E := fun e => e = r) ?_ n s e
    clear e s n
    rintro g q0 h hc0 he0
    replace h : xReader_skipsWord_b0 N o g = some q0 := h
    unfold xReader_skipsWord_b0 at h
    show V x 1 K 0 0 sz g 0 [(0, .ref (xb x + o))] []
    refine V_aload_n X dX12_skipsWord_0 0 rfl ?_
    refine V_aload_n X dX12_skipsWord_1 0 rfl ?_
    refine V_get (ci := 11) (N := 4) (C := RX12) (T := TX12) (o := o) (j := 2) X rfl in_X12 (by decide) hK0 (by decide) q798 (fv_0 rfl) dX12_skipsWord_2 ?_
    obtain ⟨c5, hc5, h⟩ := bind_some_eq h
    refine V_callV (ci := 11) (N := 4) (T := TX12) (As := [vI (gI g 1102 o)]) (rest := []) (s1 := [vI c5]) (o := o) X (con_xReader_byteAt K hW o hK0 g (gI g 1102 o) c5 hc5) gwX12_byteAt_22 hdV_X12_byteAt (by decide) rfl (by decide) hK0 rfl rfl (Nat.le_of_ble_eq_true rfl) ⟨Nat.zero_le _, Nat.zero_le _⟩ dX12_skipsWord_5 rfl rfl ?_
    obtain ⟨c8, hc8, h⟩ := bind_some_eq h
    refine V_callS (As := [vI c5]) (rest := []) (s1 := [vI c8]) X (con_xReader_isSmall K hW g c5 c8 hc8) gwX12_isSmall_33 hdS_X12_isSmall (by decide) rfl rfl (Nat.le_of_ble_eq_true rfl) ⟨Nat.zero_le _, Nat.zero_le _⟩ dX12_skipsWord_8 rfl rfl ?_
    refine V_if_eq (tgt := 27) X dX12_skipsWord_11 (by decide) h (fun h => ?_) (fun h => ?_)
    · obtain ⟨e1, h, e1q⟩ := outR_some h
      replace h := h.trans (congrArg some (he0 _ e1q))
      have hr := Option.some.inj h
      subst hr
      exact V_end_v hX rfl dX12_skipsWord_27
    · refine V_aload_n X dX12_skipsWord_14 0 rfl ?_
      refine V_dup X dX12_skipsWord_15 rfl ?_
      refine V_get (ci := 11) (N := 4) (C := RX12) (T := TX12) (o := o) (j := 2) X rfl in_X12 (by decide) hK0 (by decide) q798 (fv_0 rfl) dX12_skipsWord_16 ?_
      refine V_iconst X dX12_skipsWord_19 ?_
      refine V_iadd X dX12_skipsWord_20 ?_
      refine V_put (ty := .int) (ci := 11) (N := 4) (C := RX12) (T := TX12) (o := o) (j := 2) (a := ((gI g 1102 o) + 1)) X rfl in_X12 tyX12 tyX12_ok nmX12 (by decide) hK0 (by decide) rfl pfd_I rfl rfl q798 (by rw [fv_0 rfl, gI_sI, if_pos ⟨rfl, rfl⟩]) dX12_skipsWord_21 ?_
      refine V_goto (tgt := 0) X dX12_skipsWord_24 (by decide) ?_
      exact V_sub [0] rfl (hc0 _ (Option.some.inj h).symm)
  unfold xReader_skipsWord at h
  show V x 1 K 0 0 sz g 0 [(0, .ref (xb x + o))] []
  exact V_sub [0] rfl (LL0 N g _ h rfl)
set_option maxHeartbeats 4000000 in
theorem con_xReader_isDigit (K : Nat → Nat) (hW : WFK K) (g : GS) (l0 : Int) (r : Int) (h : xReader_isDigit l0 = some r) : Con yX12_isDigit cX12_isDigit 1 (some .boolean) 1 12 K (fun b => [vI l0]) g (fun _ => some (vI r)) g := by
  refine Con.of RX12 (by decide) rfl (fun b => Nat.le_of_ble_eq_true rfl) (fun x sz hX => ?_)
  have X := hX.1
  unfold xReader_isDigit at h
  show V x 1 K 0 0 sz g 0 [(0, vI l0)] []
  refine V_iload_n X dX12_isDigit_0 0 rfl ?_
  refine V_bipush X dX12_isDigit_1 (by decide) ?_
  refine V_icmp_lt (tgt := 16) X dX12_isDigit_3 (by decide) h (fun h => ?_) (fun h => ?_)
  · refine V_iconst X dX12_isDigit_16 ?_
    have hr := Option.some.inj h
    subst hr
    exact V_end_z hX (Or.inl rfl) rfl dX12_isDigit_17
  · refine V_iload_n X dX12_isDigit_6 0 rfl ?_
    refine V_bipush X dX12_isDigit_7 (by decide) ?_
    refine V_icmp_gt (tgt := 16) X dX12_isDigit_9 (by decide) h (fun h => ?_) (fun h => ?_)
    · refine V_iconst X dX12_isDigit_16 ?_
      have hr := Option.some.inj h
      subst hr
      exact V_end_z hX (Or.inl rfl) rfl dX12_isDigit_17
    · refine V_iconst X dX12_isDigit_12 ?_
      refine V_goto (tgt := 17) X dX12_isDigit_13 (by decide) ?_
      have hr := Option.some.inj h
      subst hr
      exact V_end_z hX (Or.inr rfl) rfl dX12_isDigit_17
set_option maxHeartbeats 4000000 in
theorem con_xReader_closes (K : Nat → Nat) (hW : WFK K) (o : Nat) (hK0 : K o = 12) (g : GS) (r : GS) (h : xReader_closes o g = some r) : Con yX12_closes cX12_closes 1 none 1 12 K (fun b => [.ref (b + o)]) g (fun _ => none) r := by
  refine Con.of RX12 (by decide) rfl (fun b => Nat.le_of_ble_eq_true rfl) (fun x sz hX => ?_)
  have X := hX.1
  unfold xReader_closes at h
  show V x 1 K 0 0 sz g 0 [(0, .ref (xb x + o))] []
  refine V_aload_n X dX12_closes_0 0 rfl ?_
  refine V_dup X dX12_closes_1 rfl ?_
  refine V_get (ci := 11) (N := 4) (C := RX12) (T := TX12) (o := o) (j := 3) X rfl in_X12 (by decide) hK0 (by decide) q799 (fv_0 rfl) dX12_closes_2 ?_
  refine V_iconst X dX12_closes_5 ?_
  refine V_isub X dX12_closes_6 ?_
  refine V_put (ty := .int) (ci := 11) (N := 4) (C := RX12) (T := TX12) (o := o) (j := 3) (a := ((gI g 1103 o) - 1)) X rfl in_X12 tyX12 tyX12_ok nmX12 (by decide) hK0 (by decide) rfl pfd_I rfl rfl q799 (by rw [fv_0 rfl, gI_sI, if_pos ⟨rfl, rfl⟩]) dX12_closes_7 ?_
  have hr := Option.some.inj h
  subst hr
  exact V_end_v hX rfl dX12_closes_10
set_option maxHeartbeats 4000000 in
theorem con_xReader_takesSign (K : Nat → Nat) (hW : WFK K) (N : Nat) (o : Nat) (hK0 : K o = 12) (g : GS) (l1 : Int) (r : (Int × GS)) (h : xReader_takesSign N o g l1 = some r) : Con yX12_takesSign cX12_takesSign 3 (some .boolean) 3 53 K (fun b => [.ref (b + o), vI l1]) g (fun _ => some (vI r.1)) r.2 := by
  refine Con.of RX12 (by decide) rfl (fun b => Nat.le_of_ble_eq_true rfl) (fun x sz hX => ?_)
  have X := hX.1
  have J13 : ∀ (g : GS) (s0 : Int), xReader_takesSign_j13 N o g s0 = some r → V x 3 K 0 0 sz g 13 [(0, .ref (xb x + o))] [vI s0] := by
    intro g s0 h
    unfold xReader_takesSign_j13 at h
    refine V_istore_n X dX12_takesSign_13 (by decide) (L' := [(2, vI s0), (0, .ref (xb x + o))]) rfl ?_
    refine V_iload_n X dX12_takesSign_14 0 rfl ?_
    refine V_if_eq (tgt := 28) X dX12_takesSign_15 (by decide) h (fun h => ?_) (fun h => ?_)
    · refine V_iload_n X dX12_takesSign_28 0 rfl ?_
      obtain ⟨h01, h⟩ := rtZ_some h
      have hr := Option.some.inj h
      subst hr
      exact V_end_z hX h01 rfl dX12_takesSign_29
    · refine V_aload_n X dX12_takesSign_18 1 rfl ?_
      refine V_dup X dX12_takesSign_19 rfl ?_
      refine V_get (ci := 11) (N := 4) (C := RX12) (T := TX12) (o := o) (j := 2) X rfl in_X12 (by decide) hK0 (by decide) q798 (fv_0 rfl) dX12_takesSign_20 ?_
      refine V_iconst X dX12_takesSign_23 ?_
      refine V_iadd X dX12_takesSign_24 ?_
      refine V_put (ty := .int) (ci := 11) (N := 4) (C := RX12) (T := TX12) (o := o) (j := 2) (a := ((gI g 1102 o) + 1)) X rfl in_X12 tyX12 tyX12_ok nmX12 (by decide) hK0 (by decide) rfl pfd_I rfl rfl q798 (by rw [fv_0 rfl, gI_sI, if_pos ⟨rfl, rfl⟩]) dX12_takesSign_25 ?_
      refine V_iload_n X dX12_takesSign_28 0 rfl ?_
      obtain ⟨h01, h⟩ := rtZ_some h
      have hr := Option.some.inj h
      subst hr
      exact V_end_z hX h01 rfl dX12_takesSign_29
  unfold xReader_takesSign at h
  show V x 3 K 0 0 sz g 0 [(0, .ref (xb x + o)), (1, vI l1)] []
  refine V_aload_n X dX12_takesSign_0 0 rfl ?_
  obtain ⟨c1, hc1, h⟩ := bind_some_eq h
  refine V_callV (ci := 11) (N := 4) (T := TX12) (As := []) (rest := []) (s1 := [vI c1.1]) (o := o) X (con_xReader_now K hW N o hK0 g c1 hc1) gwX12_now_26 hdV_X12_now (by decide) rfl (by decide) hK0 rfl rfl (Nat.le_of_ble_eq_true rfl) ⟨Nat.zero_le _, Nat.zero_le _⟩ dX12_takesSign_1 rfl rfl ?_
  refine V_iload_n X dX12_takesSign_4 1 rfl ?_
  refine V_icmp_ne (tgt := 12) X dX12_takesSign_5 (by decide) h (fun h => ?_) (fun h => ?_)
  · refine V_iconst X dX12_takesSign_12 ?_
    exact V_sub [0] rfl (J13 _ _ h)
  · refine V_iconst X dX12_takesSign_8 ?_
    refine V_goto (tgt := 13) X dX12_takesSign_9 (by decide) ?_
    exact V_sub [0] rfl (J13 _ _ h)
set_option maxHeartbeats 4000000 in
theorem con_xPlan_lineOf (K : Nat → Nat) (hW : WFK K) (N : Nat) (o : Nat) (hK0 : K o = 3) (g : GS) (l1 : Int) (r : Int) (h : xPlan_lineOf N o g l1 = some r) : Con yX3_lineOf cX3_lineOf 3 (some .int) 1 12 K (fun b => [.ref (b + o), vI l1]) g (fun _ => some (vI r)) g := by
  refine Con.of RX3 (by decide) rfl (fun b => Nat.le_of_ble_eq_true rfl) (fun x sz hX => ?_)
  have X := hX.1
  have LL2 : ∀ (l1 : Int) (n : Nat) (s : (Int)) (e : Int), loopN (fun s => xPlan_lineOf_b2 N o g l1 s) n s = some e → (e = r) → V x 3 K 0 0 sz g 2 [(0, .ref (xb x + o)), (1, vI l1), (2, vI s)] [] := by
    intro l1 n s e
    refine loop_walk (P := fun s => V x 3 K 0 0 sz g 2 [(0, .ref (xb x + o)), (1, vI l1), (2, vI s)] []) (E := fun e => e = r) ?_ n s e
    clear e s n
    rintro l2 q2 h hc2 he2
    replace h : xPlan_lineOf_b2 N o g l1 l2 = some q2 := h
    unfold xPlan_lineOf_b2 at h
    show V x 3 K 0 0 sz g 2 [(0, .ref (xb x + o)), (1, vI l1), (2, vI l2)] []
    refine V_iload_n X dX3_lineOf_2 2 rfl ?_
    refine V_aload_n X dX3_lineOf_3 0 rfl ?_
    refine V_get (ci := 2) (N := 3) (C := RX3) (T := TX3) (o := o) (j := 2) X rfl in_X3 (by decide) hK0 (by decide) q158 (fv_0 rfl) dX3_lineOf_4 ?_
    refine V_icmp_ge (tgt := 28) X dX3_lineOf_7 (by decide) h (fun h => ?_) (fun h => ?_)
    · obtain ⟨e1, h, e1q⟩ := outR_some h
      replace h := h.trans (congrArg some (he2 _ e1q))
      refine V_iconst X dX3_lineOf_28 ?_
      have hr := Option.some.inj h
      subst hr
      exact V_end_i hX rfl dX3_lineOf_29
    · refine V_aload_n X dX3_lineOf_10 0 rfl ?_
      refine V_get (ci := 2) (N := 3) (C := RX3) (T := TX3) (o := o) (j := 0) X rfl in_X3 (by decide) hK0 (by decide) q152 (fv_1 (i := (o + 1)) rfl rfl) dX3_lineOf_11 ?_
      refine V_iload_n X dX3_lineOf_14 2 rfl ?_
      refine V_iald X (o := (o + 1)) (n := 12) (hW.blk (by decide) hK0 1 (by decide) rfl) (by decide) dX3_lineOf_15 h (fun v15 h => ?_)
      refine V_iload_n X dX3_lineOf_16 1 rfl ?_
      refine V_icmp_ne (tgt := 22) X dX3_lineOf_17 (by decide) h (fun h => ?_) (fun h => ?_)
      · refine V_iinc X dX3_lineOf_22 2 rfl (by decide) (L' := [(2, vI (l2 + 1)), (0, .ref (xb x + o)), (1, vI l1)]) rfl ?_
        refine V_goto (tgt := 2) X dX3_lineOf_25 (by decide) ?_
        exact V_sub [1, 2, 0] rfl (hc2 _ (Option.some.inj h).symm)
      · obtain ⟨e2, h, e2q⟩ := outR_some h
        replace h := h.trans (congrArg some (he2 _ e2q))
        refine V_iload_n X dX3_lineOf_20 2 rfl ?_
        have hr := Option.some.inj h
        subst hr
        exact V_end_i hX rfl dX3_lineOf_21
  unfold xPlan_lineOf at h
  show V x 3 K 0 0 sz g 0 [(0, .ref (xb x + o)), (1, vI l1)] []
  refine V_iconst X dX3_lineOf_0 ?_
  refine V_istore_n X dX3_lineOf_1 (by decide) (L' := [(2, vI 0), (0, .ref (xb x + o)), (1, vI l1)]) rfl ?_
  exact V_sub [1, 2, 0] rfl (LL2 l1 N 0 _ h rfl)
set_option maxHeartbeats 4000000 in
theorem con_xPlan_as (K : Nat → Nat) (hW : WFK K) (o : Nat) (hK0 : K o = 3) (l1 : Nat) (hK1 : K l1 = 3) (g : GS) (r : GS) (h : xPlan_as o l1 g = some r) : Con yX3_as cX3_as 2 (some (.object "RainWheel$Plan")) 2 60 K (fun b => [.ref (b + o), .ref (b + l1)]) g (fun b => some (.ref (b + o))) r := by
  refine Con.of RX3 (by decide) rfl (fun b => Nat.le_of_ble_eq_true rfl) (fun x sz hX => ?_)
  have X := hX.1
  unfold xPlan_as at h
  show V x 2 K 0 0 sz g 0 [(0, .ref (xb x + o)), (1, .ref (xb x + l1))] []
  refine V_aload_n X dX3_as_0 0 rfl ?_
  refine V_aload_n X dX3_as_1 1 rfl ?_
  refine V_get (ci := 2) (N := 3) (C := RX3) (T := TX3) (o := l1) (j := 2) X rfl in_X3 (by decide) hK1 (by decide) q158 (fv_0 rfl) dX3_as_2 ?_
  refine V_put (ty := .int) (ci := 2) (N := 3) (C := RX3) (T := TX3) (o := o) (j := 2) (a := (gI g 202 l1)) X rfl in_X3 tyX3 tyX3_ok nmX3 (by decide) hK0 (by decide) rfl pfd_I rfl rfl q158 (by rw [fv_0 rfl, gI_sI, if_pos ⟨rfl, rfl⟩]) dX3_as_5 ?_
  refine V_aload_n X dX3_as_8 1 rfl ?_
  refine V_get (ci := 2) (N := 3) (C := RX3) (T := TX3) (o := l1) (j := 0) X rfl in_X3 (by decide) hK1 (by decide) q152 (fv_1 (i := (l1 + 1)) rfl rfl) dX3_as_9 ?_
  refine V_iconst X dX3_as_12 ?_
  refine V_aload_n X dX3_as_13 0 rfl ?_
  refine V_get (ci := 2) (N := 3) (C := RX3) (T := TX3) (o := o) (j := 0) X rfl in_X3 (by decide) hK0 (by decide) q152 (fv_1 (i := (o + 1)) rfl rfl) dX3_as_14 ?_
  refine V_iconst X dX3_as_17 ?_
  refine V_bipush X dX3_as_18 (by decide) ?_
  refine V_acopy (s0 := (l1 + 1)) (d0 := (o + 1)) (n0 := 12) (n1 := 12) (n := 12) X q687 (hW.blk (by decide) hK1 1 (by decide) rfl) (by decide) (hW.blk (by decide) hK0 1 (by decide) rfl) (by decide) (by decide) (by decide) (by decide) (by decide) dX3_as_20 ?_
  refine V_aload_n X dX3_as_23 1 rfl ?_
  refine V_get (ci := 2) (N := 3) (C := RX3) (T := TX3) (o := l1) (j := 1) X rfl in_X3 (by decide) hK1 (by decide) q155 (fv_1 (i := (l1 + 2)) rfl rfl) dX3_as_24 ?_
  refine V_iconst X dX3_as_27 ?_
  refine V_aload_n X dX3_as_28 0 rfl ?_
  refine V_get (ci := 2) (N := 3) (C := RX3) (T := TX3) (o := o) (j := 1) X rfl in_X3 (by decide) hK0 (by decide) q155 (fv_1 (i := (o + 2)) rfl rfl) dX3_as_29 ?_
  refine V_iconst X dX3_as_32 ?_
  refine V_bipush X dX3_as_33 (by decide) ?_
  refine V_acopy (s0 := (l1 + 2)) (d0 := (o + 2)) (n0 := 12) (n1 := 12) (n := 12) X q687 (hW.blk (by decide) hK1 2 (by decide) rfl) (by decide) (hW.blk (by decide) hK0 2 (by decide) rfl) (by decide) (by decide) (by decide) (by decide) (by decide) dX3_as_35 ?_
  refine V_aload_n X dX3_as_38 0 rfl ?_
  have hr := Option.some.inj h
  subst hr
  exact V_end_a hX rfl dX3_as_39
set_option maxHeartbeats 4000000 in
theorem con_x_fault (K : Nat → Nat) (hW : WFK K) (g : GS) (r : Int) (h : x_fault g = some r) : Con yX1_fault cX1_fault 1 (some .int) 1 12 K (fun b => [.ref (b + 0)]) g (fun _ => some (vI r)) g := by
  refine Con.of RX1 (by decide) rfl (fun b => Nat.le_of_ble_eq_true rfl) (fun x sz hX => ?_)
  have X := hX.1
  unfold x_fault at h
  show V x 1 K 0 0 sz g 0 [(0, .ref (xb x + 0))] []
  refine V_aload_n X dX1_fault_0 0 rfl ?_
  refine V_get (ci := 0) (N := 18) (C := RX1) (T := TX1) (o := 0) (j := 14) X rfl in_X1 (by decide) (hW.at 0 rfl) (by decide) q491 (fv_0 rfl) dX1_fault_1 ?_
  have hr := Option.some.inj h
  subst hr
  exact V_end_i hX rfl dX1_fault_4
set_option maxHeartbeats 4000000 in
theorem con_xRoad_isRain (K : Nat → Nat) (hW : WFK K) (N : Nat) (o : Nat) (hK0 : K o = 9) (g : GS) (l1 : Int) (r : Int) (h : xRoad_isRain N o g l1 = some r) : Con yX9_isRain cX9_isRain 3 (some .boolean) 1 12 K (fun b => [.ref (b + o), vI l1]) g (fun _ => some (vI r)) g := by
  refine Con.of RX9 (by decide) rfl (fun b => Nat.le_of_ble_eq_true rfl) (fun x sz hX => ?_)
  have X := hX.1
  have LL2 : ∀ (l1 : Int) (n : Nat) (s : (Int)) (e : Int), loopN (fun s => xRoad_isRain_b2 N o g l1 s) n s = some e → (e = r) → V x 3 K 0 0 sz g 2 [(0, .ref (xb x + o)), (1, vI l1), (2, vI s)] [] := by
    intro l1 n s e
    refine loop_walk (P := fun s => V x 3 K 0 0 sz g 2 [(0, .ref (xb x + o)), (1, vI l1), (2, vI s)] []) (E := fun e => e = r) ?_ n s e
    clear e s n
    rintro l2 q2 h hc2 he2
    replace h : xRoad_isRain_b2 N o g l1 l2 = some q2 := h
    unfold xRoad_isRain_b2 at h
    show V x 3 K 0 0 sz g 2 [(0, .ref (xb x + o)), (1, vI l1), (2, vI l2)] []
    refine V_iload_n X dX9_isRain_2 2 rfl ?_
    refine V_aload_n X dX9_isRain_3 0 rfl ?_
    refine V_get (ci := 8) (N := 24) (C := RX9) (T := TX9) (o := o) (j := 15) X rfl in_X9 (by decide) hK0 (by decide) q405 (fv_0 rfl) dX9_isRain_4 ?_
    refine V_icmp_ge (tgt := 38) X dX9_isRain_7 (by decide) h (fun h => ?_) (fun h => ?_)
    · obtain ⟨e1, h, e1q⟩ := outR_some h
      replace h := h.trans (congrArg some (he2 _ e1q))
      refine V_iconst X dX9_isRain_38 ?_
      have hr := Option.some.inj h
      subst hr
      exact V_end_z hX (Or.inl rfl) rfl dX9_isRain_39
    · refine V_iload_n X dX9_isRain_10 1 rfl ?_
      refine V_aload_n X dX9_isRain_11 0 rfl ?_
      refine V_get (ci := 8) (N := 24) (C := RX9) (T := TX9) (o := o) (j := 6) X rfl in_X9 (by decide) hK0 (by decide) q377 (fv_1 (i := (o + 7)) rfl rfl) dX9_isRain_12 ?_
      refine V_iload_n X dX9_isRain_15 2 rfl ?_
      refine V_iald X (o := (o + 7)) (n := 6) (hW.blk (by decide) hK0 7 (by decide) rfl) (by decide) dX9_isRain_16 h (fun v16 h => ?_)
      refine V_icmp_lt (tgt := 32) X dX9_isRain_17 (by decide) h (fun h => ?_) (fun h => ?_)
      · refine V_iinc X dX9_isRain_32 2 rfl (by decide) (L' := [(2, vI (l2 + 1)), (0, .ref (xb x + o)), (1, vI l1)]) rfl ?_
        refine V_goto (tgt := 2) X dX9_isRain_35 (by decide) ?_
        exact V_sub [1, 2, 0] rfl (hc2 _ (Option.some.inj h).symm)
      · refine V_iload_n X dX9_isRain_20 1 rfl ?_
        refine V_aload_n X dX9_isRain_21 0 rfl ?_
        refine V_get (ci := 8) (N := 24) (C := RX9) (T := TX9) (o := o) (j := 7) X rfl in_X9 (by decide) hK0 (by decide) q379 (fv_1 (i := (o + 8)) rfl rfl) dX9_isRain_22 ?_
        refine V_iload_n X dX9_isRain_25 2 rfl ?_
        refine V_iald X (o := (o + 8)) (n := 6) (hW.blk (by decide) hK0 8 (by decide) rfl) (by decide) dX9_isRain_26 h (fun v26 h => ?_)
        refine V_icmp_gt (tgt := 32) X dX9_isRain_27 (by decide) h (fun h => ?_) (fun h => ?_)
        · refine V_iinc X dX9_isRain_32 2 rfl (by decide) (L' := [(2, vI (l2 + 1)), (0, .ref (xb x + o)), (1, vI l1)]) rfl ?_
          refine V_goto (tgt := 2) X dX9_isRain_35 (by decide) ?_
          exact V_sub [1, 2, 0] rfl (hc2 _ (Option.some.inj h).symm)
        · obtain ⟨e2, h, e2q⟩ := outR_some h
          replace h := h.trans (congrArg some (he2 _ e2q))
          refine V_iconst X dX9_isRain_30 ?_
          have hr := Option.some.inj h
          subst hr
          exact V_end_z hX (Or.inr rfl) rfl dX9_isRain_31
  unfold xRoad_isRain at h
  show V x 3 K 0 0 sz g 0 [(0, .ref (xb x + o)), (1, vI l1)] []
  refine V_iconst X dX9_isRain_0 ?_
  refine V_istore_n X dX9_isRain_1 (by decide) (L' := [(2, vI 0), (0, .ref (xb x + o)), (1, vI l1)]) rfl ?_
  exact V_sub [1, 2, 0] rfl (LL2 l1 N 0 _ h rfl)
set_option maxHeartbeats 4000000 in
theorem con_xWatch_starts (K : Nat → Nat) (hW : WFK K) (N : Nat) (o : Nat) (hK0 : K o = 4) (l1 : Nat) (hK1 : K l1 = 9) (g : GS) (r : GS) (h : xWatch_starts N o l1 g = some r) : Con yX4_starts cX4_starts 3 (some (.object "RainWheel$Watch")) 1 12 K (fun b => [.ref (b + o), .ref (b + l1)]) g (fun b => some (.ref (b + o))) r := by
  refine Con.of RX4 (by decide) rfl (fun b => Nat.le_of_ble_eq_true rfl) (fun x sz hX => ?_)
  have X := hX.1
  have LL28 : ∀  (n : Nat) (s : (GS × Int)) (e : (GS)), loopN (fun s => xWatch_starts_b28 N o l1 s.1 s.2) n s = some e → V x 3 K 0 0 sz e 60 [(0, .ref (xb x + o))] [] → V x 3 K 0 0 sz s.1 28 [(0, .ref (xb x + o)), (2, vI s.2)] [] := by
    intro  n s e
    refine loop_walk (P := fun s => V x 3 K 0 0 sz s.1 28 [(0, .ref (xb x + o)), (2, vI s.2)] []) (E := fun e => V x 3 K 0 0 sz e 60 [(0, .ref (xb x + o))] []) ?_ n s e
    clear e s n
    rintro ⟨g, l2⟩ q28 h hc28 he28
    replace h : xWatch_starts_b28 N o l1 g l2 = some q28 := h
    unfold xWatch_starts_b28 at h
    show V x 3 K 0 0 sz g 28 [(0, .ref (xb x + o)), (2, vI l2)] []
    refine V_iload_n X dX4_starts_28 1 rfl ?_
    refine V_iconst X dX4_starts_29 ?_
    refine V_icmp_ge (tgt := 60) X dX4_starts_30 (by decide) h (fun h => ?_) (fun h => ?_)
    · exact V_sub [0] rfl (he28 _ (Option.some.inj h).symm)
    · refine V_aload_n X dX4_starts_33 0 rfl ?_
      refine V_get (ci := 3) (N := 15) (C := RX4) (T := TX4) (o := o) (j := 3) X rfl in_X4 (by decide) hK0 (by decide) q222 (fv_1 (i := (o + 4)) rfl rfl) dX4_starts_34 ?_
      refine V_iload_n X dX4_starts_37 1 rfl ?_
      refine V_iconst X dX4_starts_38 ?_
      refine V_iast X (o := (o + 4)) (n := 4) (hW.blk (by decide) hK0 4 (by decide) rfl) (by decide) dX4_starts_39 h (fun g39 h => ?_)
      refine V_aload_n X dX4_starts_40 0 rfl ?_
      refine V_get (ci := 3) (N := 15) (C := RX4) (T := TX4) (o := o) (j := 4) X rfl in_X4 (by decide) hK0 (by decide) q223 (fv_1 (i := (o + 5)) rfl rfl) dX4_starts_41 ?_
      refine V_iload_n X dX4_starts_44 1 rfl ?_
      refine V_iconst X dX4_starts_45 ?_
      refine V_iast X (o := (o + 5)) (n := 4) (hW.blk (by decide) hK0 5 (by decide) rfl) (by decide) dX4_starts_46 h (fun g46 h => ?_)
      refine V_aload_n X dX4_starts_47 0 rfl ?_
      refine V_get (ci := 3) (N := 15) (C := RX4) (T := TX4) (o := o) (j := 5) X rfl in_X4 (by decide) hK0 (by decide) q225 (fv_1 (i := (o + 6)) rfl rfl) dX4_starts_48 ?_
      refine V_iload_n X dX4_starts_51 1 rfl ?_
      refine V_iconst X dX4_starts_52 ?_
      refine V_iast X (o := (o + 6)) (n := 4) (hW.blk (by decide) hK0 6 (by decide) rfl) (by decide) dX4_starts_53 h (fun g53 h => ?_)
      refine V_iinc X dX4_starts_54 1 rfl (by decide) (L' := [(2, vI (l2 + 1)), (0, .ref (xb x + o))]) rfl ?_
      refine V_goto (tgt := 28) X dX4_starts_57 (by decide) ?_
      exact V_sub [1, 0] rfl (hc28 _ (Option.some.inj h).symm)
  have LL7 : ∀  (n : Nat) (s : (GS × Int)) (e : (GS)), loopN (fun s => xWatch_starts_b7 N o l1 s.1 s.2) n s = some e → V x 3 K 0 0 sz e 26 [(0, .ref (xb x + o))] [] → V x 3 K 0 0 sz s.1 7 [(0, .ref (xb x + o)), (2, vI s.2)] [] := by
    intro  n s e
    refine loop_walk (P := fun s => V x 3 K 0 0 sz s.1 7 [(0, .ref (xb x + o)), (2, vI s.2)] []) (E := fun e => V x 3 K 0 0 sz e 26 [(0, .ref (xb x + o))] []) ?_ n s e
    clear e s n
    rintro ⟨g, l2⟩ q7 h hc7 he7
    replace h : xWatch_starts_b7 N o l1 g l2 = some q7 := h
    unfold xWatch_starts_b7 at h
    show V x 3 K 0 0 sz g 7 [(0, .ref (xb x + o)), (2, vI l2)] []
    refine V_iload_n X dX4_starts_7 1 rfl ?_
    refine V_bipush X dX4_starts_8 (by decide) ?_
    refine V_icmp_ge (tgt := 26) X dX4_starts_10 (by decide) h (fun h => ?_) (fun h => ?_)
    · exact V_sub [0] rfl (he7 _ (Option.some.inj h).symm)
    · refine V_aload_n X dX4_starts_13 0 rfl ?_
      refine V_get (ci := 3) (N := 15) (C := RX4) (T := TX4) (o := o) (j := 2) X rfl in_X4 (by decide) hK0 (by decide) q221 (fv_1 (i := (o + 3)) rfl rfl) dX4_starts_14 ?_
      refine V_iload_n X dX4_starts_17 1 rfl ?_
      refine V_iconst X dX4_starts_18 ?_
      refine V_iast X (o := (o + 3)) (n := 12) (hW.blk (by decide) hK0 3 (by decide) rfl) (by decide) dX4_starts_19 h (fun g19 h => ?_)
      refine V_iinc X dX4_starts_20 1 rfl (by decide) (L' := [(2, vI (l2 + 1)), (0, .ref (xb x + o))]) rfl ?_
      refine V_goto (tgt := 7) X dX4_starts_23 (by decide) ?_
      exact V_sub [1, 0] rfl (hc7 _ (Option.some.inj h).symm)
  unfold xWatch_starts at h
  show V x 3 K 0 0 sz g 0 [(0, .ref (xb x + o)), (1, .ref (xb x + l1))] []
  refine V_aload_n X dX4_starts_0 0 rfl ?_
  refine V_aload_n X dX4_starts_1 1 rfl ?_
  refine V_put (ty := (.object "RainWheel$Road")) (ci := 3) (N := 15) (C := RX4) (T := TX4) (o := o) (j := 8) (a := (l1 : Int)) X rfl in_X4 tyX4 tyX4_ok nmX4 (by decide) hK0 (by decide) rfl pfd_Road rfl rfl q229 (fv_3i rfl (by rw [gI_sI, if_pos ⟨rfl, rfl⟩])) dX4_starts_2 ?_
  refine V_iconst X dX4_starts_5 ?_
  refine V_istore_n X dX4_starts_6 (by decide) (L' := [(2, vI 0), (0, .ref (xb x + o)), (1, .ref (xb x + l1))]) rfl ?_
  obtain ⟨t1, t1q, h⟩ := bind_some_eq h
  refine V_sub [1, 0] rfl (LL7 N ((sI g 308 o (l1 : Int)), 0) _ t1q ?_)
  refine V_iconst X dX4_starts_26 ?_
  refine V_istore_n X dX4_starts_27 (by decide) (L' := [(2, vI 0), (0, .ref (xb x + o))]) rfl ?_
  obtain ⟨t2, t2q, h⟩ := bind_some_eq h
  refine V_sub [1, 0] rfl (LL28 N (t1, 0) _ t2q ?_)
  refine V_aload_n X dX4_starts_60 0 rfl ?_
  refine V_iconst X dX4_starts_61 ?_
  refine V_put (ty := .int) (ci := 3) (N := 15) (C := RX4) (T := TX4) (o := o) (j := 9) (a := 0) X rfl in_X4 tyX4 tyX4_ok nmX4 (by decide) hK0 (by decide) rfl pfd_I rfl rfl q230 (by rw [fv_0 rfl, gI_sI, if_pos ⟨rfl, rfl⟩]) dX4_starts_62 ?_
  refine V_aload_n X dX4_starts_65 0 rfl ?_
  refine V_iconst X dX4_starts_66 ?_
  refine V_put (ty := .int) (ci := 3) (N := 15) (C := RX4) (T := TX4) (o := o) (j := 10) (a := 0) X rfl in_X4 tyX4 tyX4_ok nmX4 (by decide) hK0 (by decide) rfl pfd_I rfl rfl q233 (by rw [fv_0 rfl, gI_sI, if_pos ⟨rfl, rfl⟩]) dX4_starts_67 ?_
  refine V_aload_n X dX4_starts_70 0 rfl ?_
  refine V_iconst X dX4_starts_71 ?_
  refine V_put (ty := .int) (ci := 3) (N := 15) (C := RX4) (T := TX4) (o := o) (j := 14) (a := 0) X rfl in_X4 tyX4 tyX4_ok nmX4 (by decide) hK0 (by decide) rfl pfd_I rfl rfl q238 (by rw [fv_0 rfl, gI_sI, if_pos ⟨rfl, rfl⟩]) dX4_starts_72 ?_
  refine V_aload_n X dX4_starts_75 0 rfl ?_
  refine V_iconst X dX4_starts_76 ?_
  refine V_put (ty := .int) (ci := 3) (N := 15) (C := RX4) (T := TX4) (o := o) (j := 12) (a := (-1)) X rfl in_X4 tyX4 tyX4_ok nmX4 (by decide) hK0 (by decide) rfl pfd_I rfl rfl q236 (by rw [fv_0 rfl, gI_sI, if_pos ⟨rfl, rfl⟩]) dX4_starts_77 ?_
  refine V_aload_n X dX4_starts_80 0 rfl ?_
  have hr := Option.some.inj h
  subst hr
  exact V_end_a hX rfl dX4_starts_81
set_option maxHeartbeats 4000000 in
theorem con_xRoad_strongOf (K : Nat → Nat) (hW : WFK K) (N : Nat) (o : Nat) (hK0 : K o = 9) (g : GS) (l1 : Int) (r : Int) (h : xRoad_strongOf N o g l1 = some r) : Con yX9_strongOf cX9_strongOf 4 (some .int) 1 12 K (fun b => [.ref (b + o), vI l1]) g (fun _ => some (vI r)) g := by
  refine Con.of RX9 (by decide) rfl (fun b => Nat.le_of_ble_eq_true rfl) (fun x sz hX => ?_)
  have X := hX.1
  have LL4 : ∀ (l1 : Int) (n : Nat) (s : (Int × Int)) (e : Int), loopN (fun s => xRoad_strongOf_b4 N o g l1 s.1 s.2) n s = some e → (e = r) → V x 4 K 0 0 sz g 4 [(0, .ref (xb x + o)), (1, vI l1), (2, vI s.1), (3, vI s.2)] [] := by
    intro l1 n s e
    refine loop_walk (P := fun s => V x 4 K 0 0 sz g 4 [(0, .ref (xb x + o)), (1, vI l1), (2, vI s.1), (3, vI s.2)] []) (E := fun e => e = r) ?_ n s e
    clear e s n
    rintro ⟨l2, l3⟩ q4 h hc4 he4
    replace h : xRoad_strongOf_b4 N o g l1 l2 l3 = some q4 := h
    unfold xRoad_strongOf_b4 at h
    show V x 4 K 0 0 sz g 4 [(0, .ref (xb x + o)), (1, vI l1), (2, vI l2), (3, vI l3)] []
    refine V_iload_n X dX9_strongOf_4 3 rfl ?_
    refine V_aload_n X dX9_strongOf_5 0 rfl ?_
    refine V_get (ci := 8) (N := 24) (C := RX9) (T := TX9) (o := o) (j := 13) X rfl in_X9 (by decide) hK0 (by decide) q397 (fv_0 rfl) dX9_strongOf_6 ?_
    refine V_icmp_ge (tgt := 36) X dX9_strongOf_9 (by decide) h (fun h => ?_) (fun h => ?_)
    · obtain ⟨e1, h, e1q⟩ := outR_some h
      replace h := h.trans (congrArg some (he4 _ e1q))
      refine V_iload_n X dX9_strongOf_36 2 rfl ?_
      have hr := Option.some.inj h
      subst hr
      exact V_end_i hX rfl dX9_strongOf_37
    · refine V_iload_n X dX9_strongOf_12 1 rfl ?_
      refine V_iload_n X dX9_strongOf_13 3 rfl ?_
      refine V_ishr X dX9_strongOf_14 ?_
      refine V_iconst X dX9_strongOf_15 ?_
      refine V_iand X dX9_strongOf_16 ?_
      refine V_iconst X dX9_strongOf_17 ?_
      refine V_icmp_ne (tgt := 30) X dX9_strongOf_18 (by decide) h (fun h => ?_) (fun h => ?_)
      · refine V_iinc X dX9_strongOf_30 3 rfl (by decide) (L' := [(3, vI (l3 + 1)), (0, .ref (xb x + o)), (1, vI l1), (2, vI l2)]) rfl ?_
        refine V_goto (tgt := 4) X dX9_strongOf_33 (by decide) ?_
        exact V_sub [1, 2, 3, 0] rfl (hc4 _ (Option.some.inj h).symm)
      · refine V_iload_n X dX9_strongOf_21 2 rfl ?_
        refine V_aload_n X dX9_strongOf_22 0 rfl ?_
        refine V_get (ci := 8) (N := 24) (C := RX9) (T := TX9) (o := o) (j := 0) X rfl in_X9 (by decide) hK0 (by decide) q355 (fv_1 (i := (o + 1)) rfl rfl) dX9_strongOf_23 ?_
        refine V_iload_n X dX9_strongOf_26 3 rfl ?_
        refine V_iald X (o := (o + 1)) (n := 4) (hW.blk (by decide) hK0 1 (by decide) rfl) (by decide) dX9_strongOf_27 h (fun v27 h => ?_)
        refine V_iadd X dX9_strongOf_28 ?_
        refine V_istore_n X dX9_strongOf_29 (by decide) (L' := [(2, vI (l2 + v27)), (0, .ref (xb x + o)), (1, vI l1), (3, vI l3)]) rfl ?_
        refine V_iinc X dX9_strongOf_30 3 rfl (by decide) (L' := [(3, vI (l3 + 1)), (2, vI (l2 + v27)), (0, .ref (xb x + o)), (1, vI l1)]) rfl ?_
        refine V_goto (tgt := 4) X dX9_strongOf_33 (by decide) ?_
        exact V_sub [2, 3, 1, 0] rfl (hc4 _ (Option.some.inj h).symm)
  unfold xRoad_strongOf at h
  show V x 4 K 0 0 sz g 0 [(0, .ref (xb x + o)), (1, vI l1)] []
  refine V_iconst X dX9_strongOf_0 ?_
  refine V_istore_n X dX9_strongOf_1 (by decide) (L' := [(2, vI 0), (0, .ref (xb x + o)), (1, vI l1)]) rfl ?_
  refine V_iconst X dX9_strongOf_2 ?_
  refine V_istore_n X dX9_strongOf_3 (by decide) (L' := [(3, vI 0), (2, vI 0), (0, .ref (xb x + o)), (1, vI l1)]) rfl ?_
  exact V_sub [2, 3, 1, 0] rfl (LL4 l1 N (0, 0) _ h rfl)
set_option maxHeartbeats 4000000 in
theorem con_xRoad_isDone (K : Nat → Nat) (hW : WFK K) (N : Nat) (o : Nat) (hK0 : K o = 9) (g : GS) (l1 : Int) (l2 : Int) (r : Int) (h : xRoad_isDone N o g l1 l2 = some r) : Con yX9_isDone cX9_isDone 3 (some .boolean) 2 60 K (fun b => [.ref (b + o), vI l1, vI l2]) g (fun _ => some (vI r)) g := by
  refine Con.of RX9 (by decide) rfl (fun b => Nat.le_of_ble_eq_true rfl) (fun x sz hX => ?_)
  have X := hX.1
  unfold xRoad_isDone at h
  show V x 3 K 0 0 sz g 0 [(0, .ref (xb x + o)), (1, vI l1), (2, vI l2)] []
  refine V_iload_n X dX9_isDone_0 2 rfl ?_
  refine V_bits X q564 (by decide) (Nat.le_of_ble_eq_true rfl) ⟨Nat.zero_le _, Nat.zero_le _⟩ dX9_isDone_1 ?_
  refine V_aload_n X dX9_isDone_4 0 rfl ?_
  refine V_get (ci := 8) (N := 24) (C := RX9) (T := TX9) (o := o) (j := 3) X rfl in_X9 (by decide) hK0 (by decide) q366 (fv_1 (i := (o + 4)) rfl rfl) dX9_isDone_5 ?_
  refine V_iload_n X dX9_isDone_8 1 rfl ?_
  refine V_iald X (o := (o + 4)) (n := 12) (hW.blk (by decide) hK0 4 (by decide) rfl) (by decide) dX9_isDone_9 h (fun v9 h => ?_)
  refine V_icmp_ne (tgt := 31) X dX9_isDone_10 (by decide) h (fun h => ?_) (fun h => ?_)
  · refine V_iconst X dX9_isDone_31 ?_
    have hr := Option.some.inj h
    subst hr
    exact V_end_z hX (Or.inl rfl) rfl dX9_isDone_32
  · refine V_aload_n X dX9_isDone_13 0 rfl ?_
    refine V_iload_n X dX9_isDone_14 2 rfl ?_
    obtain ⟨c15, hc15, h⟩ := bind_some_eq h
    refine V_callV (ci := 8) (N := 24) (T := TX9) (As := [vI l2]) (rest := []) (s1 := [vI c15]) (o := o) X (con_xRoad_strongOf K hW N o hK0 g l2 c15 hc15) gwX9_strongOf_82 hdV_X9_strongOf (by decide) rfl (by decide) hK0 rfl rfl (Nat.le_of_ble_eq_true rfl) ⟨Nat.zero_le _, Nat.zero_le _⟩ dX9_isDone_15 rfl rfl ?_
    refine V_aload_n X dX9_isDone_18 0 rfl ?_
    refine V_get (ci := 8) (N := 24) (C := RX9) (T := TX9) (o := o) (j := 4) X rfl in_X9 (by decide) hK0 (by decide) q370 (fv_1 (i := (o + 5)) rfl rfl) dX9_isDone_19 ?_
    refine V_iload_n X dX9_isDone_22 1 rfl ?_
    refine V_iald X (o := (o + 5)) (n := 12) (hW.blk (by decide) hK0 5 (by decide) rfl) (by decide) dX9_isDone_23 h (fun v23 h => ?_)
    refine V_icmp_lt (tgt := 31) X dX9_isDone_24 (by decide) h (fun h => ?_) (fun h => ?_)
    · refine V_iconst X dX9_isDone_31 ?_
      have hr := Option.some.inj h
      subst hr
      exact V_end_z hX (Or.inl rfl) rfl dX9_isDone_32
    · refine V_iconst X dX9_isDone_27 ?_
      refine V_goto (tgt := 32) X dX9_isDone_28 (by decide) ?_
      have hr := Option.some.inj h
      subst hr
      exact V_end_z hX (Or.inr rfl) rfl dX9_isDone_32
set_option maxHeartbeats 4000000 in
theorem con_xWatch_isReady (K : Nat → Nat) (hW : WFK K) (N : Nat) (o : Nat) (hK0 : K o = 4) (g : GS) (l1 : Int) (r : Int) (h : xWatch_isReady N K o g l1 = some r) : Con yX4_isReady cX4_isReady 3 (some .boolean) 1 12 K (fun b => [.ref (b + o), vI l1]) g (fun _ => some (vI r)) g := by
  refine Con.of RX4 (by decide) rfl (fun b => Nat.le_of_ble_eq_true rfl) (fun x sz hX => ?_)
  have X := hX.1
  have LL2 : ∀ (l1 : Int) (n : Nat) (s : (Int)) (e : Int), loopN (fun s => xWatch_isReady_b2 N K o g l1 s) n s = some e → (e = r) → V x 3 K 0 0 sz g 2 [(0, .ref (xb x + o)), (1, vI l1), (2, vI s)] [] := by
    intro l1 n s e
    refine loop_walk (P := fun s => V x 3 K 0 0 sz g 2 [(0, .ref (xb x + o)), (1, vI l1), (2, vI s)] []) (E := fun e => e = r) ?_ n s e
    clear e s n
    rintro l2 q2 h hc2 he2
    replace h : xWatch_isReady_b2 N K o g l1 l2 = some q2 := h
    unfold xWatch_isReady_b2 at h
    show V x 3 K 0 0 sz g 2 [(0, .ref (xb x + o)), (1, vI l1), (2, vI l2)] []
    refine V_iload_n X dX4_isReady_2 2 rfl ?_
    refine V_iload_n X dX4_isReady_3 1 rfl ?_
    refine V_icmp_ge (tgt := 42) X dX4_isReady_4 (by decide) h (fun h => ?_) (fun h => ?_)
    · obtain ⟨e1, h, e1q⟩ := outR_some h
      replace h := h.trans (congrArg some (he2 _ e1q))
      refine V_iconst X dX4_isReady_42 ?_
      have hr := Option.some.inj h
      subst hr
      exact V_end_z hX (Or.inr rfl) rfl dX4_isReady_43
    · refine V_aload_n X dX4_isReady_7 0 rfl ?_
      obtain ⟨i8, hvi8, hki8, h⟩ := rdR_some h
      refine V_get (ci := 3) (N := 15) (C := RX4) (T := TX4) (o := o) (j := 8) X rfl in_X4 (by decide) hK0 (by decide) q229 (fv_3i rfl hvi8) dX4_isReady_8 ?_
      refine V_getN (ci := 8) (N := 24) (C := RX9) (T := TX9) (o := i8) (j := 5) X rfl in_X9 (by decide) hki8 (by decide) q375 (fv_1 (i := (i8 + 6)) rfl rfl) dX4_isReady_11 ?_
      refine V_iload_n X dX4_isReady_14 1 rfl ?_
      refine V_iald X (o := (i8 + 6)) (n := 12) (hW.blk (by decide) hki8 6 (by decide) rfl) (by decide) dX4_isReady_15 h (fun v15 h => ?_)
      refine V_iload_n X dX4_isReady_16 2 rfl ?_
      refine V_ishr X dX4_isReady_17 ?_
      refine V_iconst X dX4_isReady_18 ?_
      refine V_iand X dX4_isReady_19 ?_
      refine V_iconst X dX4_isReady_20 ?_
      refine V_icmp_ne (tgt := 36) X dX4_isReady_21 (by decide) h (fun h => ?_) (fun h => ?_)
      · refine V_iinc X dX4_isReady_36 2 rfl (by decide) (L' := [(2, vI (l2 + 1)), (0, .ref (xb x + o)), (1, vI l1)]) rfl ?_
        refine V_goto (tgt := 2) X dX4_isReady_39 (by decide) ?_
        exact V_sub [1, 2, 0] rfl (hc2 _ (Option.some.inj h).symm)
      · refine V_aload_n X dX4_isReady_24 0 rfl ?_
        refine V_get (ci := 3) (N := 15) (C := RX4) (T := TX4) (o := o) (j := 2) X rfl in_X4 (by decide) hK0 (by decide) q221 (fv_1 (i := (o + 3)) rfl rfl) dX4_isReady_25 ?_
        refine V_iload_n X dX4_isReady_28 2 rfl ?_
        refine V_iald X (o := (o + 3)) (n := 12) (hW.blk (by decide) hK0 3 (by decide) rfl) (by decide) dX4_isReady_29 h (fun v29 h => ?_)
        refine V_iconst X dX4_isReady_30 ?_
        refine V_icmp_ne (tgt := 36) X dX4_isReady_31 (by decide) h (fun h => ?_) (fun h => ?_)
        · refine V_iinc X dX4_isReady_36 2 rfl (by decide) (L' := [(2, vI (l2 + 1)), (0, .ref (xb x + o)), (1, vI l1)]) rfl ?_
          refine V_goto (tgt := 2) X dX4_isReady_39 (by decide) ?_
          exact V_sub [1, 2, 0] rfl (hc2 _ (Option.some.inj h).symm)
        · obtain ⟨e2, h, e2q⟩ := outR_some h
          replace h := h.trans (congrArg some (he2 _ e2q))
          refine V_iconst X dX4_isReady_34 ?_
          have hr := Option.some.inj h
          subst hr
          exact V_end_z hX (Or.inl rfl) rfl dX4_isReady_35
  unfold xWatch_isReady at h
  show V x 3 K 0 0 sz g 0 [(0, .ref (xb x + o)), (1, vI l1)] []
  refine V_iconst X dX4_isReady_0 ?_
  refine V_istore_n X dX4_isReady_1 (by decide) (L' := [(2, vI 0), (0, .ref (xb x + o)), (1, vI l1)]) rfl ?_
  exact V_sub [1, 2, 0] rfl (LL2 l1 N 0 _ h rfl)
set_option maxHeartbeats 4000000 in
theorem con_xWatch_draw (K : Nat → Nat) (hW : WFK K) (o : Nat) (hK0 : K o = 4) (g : GS) (r : (Int × GS)) (h : xWatch_draw o g = some r) : Con yX4_draw cX4_draw 1 (some .int) 1 12 K (fun b => [.ref (b + o)]) g (fun _ => some (vI r.1)) r.2 := by
  refine Con.of RX4 (by decide) rfl (fun b => Nat.le_of_ble_eq_true rfl) (fun x sz hX => ?_)
  have X := hX.1
  unfold xWatch_draw at h
  show V x 1 K 0 0 sz g 0 [(0, .ref (xb x + o))] []
  refine V_aload_n X dX4_draw_0 0 rfl ?_
  refine V_aload_n X dX4_draw_1 0 rfl ?_
  refine V_get (ci := 3) (N := 15) (C := RX4) (T := TX4) (o := o) (j := 11) X rfl in_X4 (by decide) hK0 (by decide) q235 (fv_0 rfl) dX4_draw_2 ?_
  refine V_ldc X q632 (n := 1103515245) (by decide) dX4_draw_5 ?_
  refine V_imul X dX4_draw_7 ?_
  refine V_sipush X dX4_draw_8 (by decide) ?_
  refine V_iadd X dX4_draw_11 ?_
  refine V_put (ty := .int) (ci := 3) (N := 15) (C := RX4) (T := TX4) (o := o) (j := 11) (a := (((gI g 311 o) * 1103515245) + 12345)) X rfl in_X4 tyX4 tyX4_ok nmX4 (by decide) hK0 (by decide) rfl pfd_I rfl rfl q235 (by rw [fv_0 rfl, gI_sI, if_pos ⟨rfl, rfl⟩]) dX4_draw_12 ?_
  refine V_aload_n X dX4_draw_15 0 rfl ?_
  refine V_get (ci := 3) (N := 15) (C := RX4) (T := TX4) (o := o) (j := 11) X rfl in_X4 (by decide) hK0 (by decide) q235 (fv_0 rfl) dX4_draw_16 ?_
  refine V_bipush X dX4_draw_19 (by decide) ?_
  refine V_ishr X dX4_draw_21 ?_
  refine V_sipush X dX4_draw_22 (by decide) ?_
  refine V_iand X dX4_draw_25 ?_
  refine V_bipush X dX4_draw_26 (by decide) ?_
  refine V_iremK X dX4_draw_28 (by decide) ?_
  have hr := Option.some.inj h
  subst hr
  exact V_end_i hX rfl dX4_draw_29
set_option maxHeartbeats 4000000 in
theorem con_xRoad_rainIn (K : Nat → Nat) (hW : WFK K) (N : Nat) (o : Nat) (hK0 : K o = 9) (g : GS) (l1 : Int) (l2 : Int) (r : Int) (h : xRoad_rainIn N o g l1 l2 = some r) : Con yX9_rainIn cX9_rainIn 5 (some .int) 2 34 K (fun b => [.ref (b + o), vI l1, vI l2]) g (fun _ => some (vI r)) g := by
  refine Con.of RX9 (by decide) rfl (fun b => Nat.le_of_ble_eq_true rfl) (fun x sz hX => ?_)
  have X := hX.1
  have LL5 : ∀ (l2 : Int) (n : Nat) (s : (Int × Int)) (e : Int), loopN (fun s => xRoad_rainIn_b5 N o g l2 s.1 s.2) n s = some e → (e = r) → V x 5 K 0 0 sz g 5 [(0, .ref (xb x + o)), (2, vI l2), (3, vI s.1), (4, vI s.2)] [] := by
    intro l2 n s e
    refine loop_walk (P := fun s => V x 5 K 0 0 sz g 5 [(0, .ref (xb x + o)), (2, vI l2), (3, vI s.1), (4, vI s.2)] []) (E := fun e => e = r) ?_ n s e
    clear e s n
    rintro ⟨l3, l4⟩ q5 h hc5 he5
    replace h : xRoad_rainIn_b5 N o g l2 l3 l4 = some q5 := h
    unfold xRoad_rainIn_b5 at h
    show V x 5 K 0 0 sz g 5 [(0, .ref (xb x + o)), (2, vI l2), (3, vI l3), (4, vI l4)] []
    refine V_iload X dX9_rainIn_5 3 rfl ?_
    refine V_iload_n X dX9_rainIn_7 1 rfl ?_
    refine V_icmp_ge (tgt := 37) X dX9_rainIn_8 (by decide) h (fun h => ?_) (fun h => ?_)
    · obtain ⟨e1, h, e1q⟩ := outR_some h
      replace h := h.trans (congrArg some (he5 _ e1q))
      refine V_iload_n X dX9_rainIn_37 2 rfl ?_
      have hr := Option.some.inj h
      subst hr
      exact V_end_i hX rfl dX9_rainIn_38
    · refine V_iload X dX9_rainIn_11 3 rfl ?_
      refine V_sipush X dX9_rainIn_13 (by decide) ?_
      refine V_icmp_gt (tgt := 37) X dX9_rainIn_16 (by decide) h (fun h => ?_) (fun h => ?_)
      · obtain ⟨e2, h, e2q⟩ := outR_some h
        replace h := h.trans (congrArg some (he5 _ e2q))
        refine V_iload_n X dX9_rainIn_37 2 rfl ?_
        have hr := Option.some.inj h
        subst hr
        exact V_end_i hX rfl dX9_rainIn_38
      · refine V_aload_n X dX9_rainIn_19 0 rfl ?_
        refine V_iload X dX9_rainIn_20 3 rfl ?_
        obtain ⟨c22, hc22, h⟩ := bind_some_eq h
        refine V_callV (ci := 8) (N := 24) (T := TX9) (As := [vI l4]) (rest := []) (s1 := [vI c22]) (o := o) X (con_xRoad_isRain K hW N o hK0 g l4 c22 hc22) gwX9_isRain_69 hdV_X9_isRain (by decide) rfl (by decide) hK0 rfl rfl (Nat.le_of_ble_eq_true rfl) ⟨Nat.zero_le _, Nat.zero_le _⟩ dX9_rainIn_22 rfl rfl ?_
        refine V_if_eq (tgt := 31) X dX9_rainIn_25 (by decide) h (fun h => ?_) (fun h => ?_)
        · refine V_iinc X dX9_rainIn_31 3 rfl (by decide) (L' := [(4, vI (l4 + 1)), (0, .ref (xb x + o)), (2, vI l2), (3, vI l3)]) rfl ?_
          refine V_goto (tgt := 5) X dX9_rainIn_34 (by decide) ?_
          exact V_sub [1, 2, 3, 0] rfl (hc5 _ (Option.some.inj h).symm)
        · refine V_iinc X dX9_rainIn_28 2 rfl (by decide) (L' := [(3, vI (l3 + 1)), (0, .ref (xb x + o)), (2, vI l2), (4, vI l4)]) rfl ?_
          refine V_iinc X dX9_rainIn_31 3 rfl (by decide) (L' := [(4, vI (l4 + 1)), (3, vI (l3 + 1)), (0, .ref (xb x + o)), (2, vI l2)]) rfl ?_
          refine V_goto (tgt := 5) X dX9_rainIn_34 (by decide) ?_
          exact V_sub [2, 3, 1, 0] rfl (hc5 _ (Option.some.inj h).symm)
  unfold xRoad_rainIn at h
  show V x 5 K 0 0 sz g 0 [(0, .ref (xb x + o)), (1, vI l1), (2, vI l2)] []
  refine V_iconst X dX9_rainIn_0 ?_
  refine V_istore_n X dX9_rainIn_1 (by decide) (L' := [(3, vI 0), (0, .ref (xb x + o)), (1, vI l1), (2, vI l2)]) rfl ?_
  refine V_iload_n X dX9_rainIn_2 2 rfl ?_
  refine V_istore X dX9_rainIn_3 (by decide) (L' := [(4, vI l1), (3, vI 0), (0, .ref (xb x + o)), (1, vI l1), (2, vI l2)]) rfl ?_
  exact V_sub [2, 4, 1, 0] rfl (LL5 l2 N (0, l1) _ h rfl)
set_option maxHeartbeats 4000000 in
theorem con_xWatch_works (K : Nat → Nat) (hW : WFK K) (o : Nat) (hK0 : K o = 4) (g : GS) (l1 : Int) (l2 : Int) (l3 : Int) (l4 : Int) (r : GS) (h : xWatch_works o g l1 l2 l3 l4 = some r) : Con yX4_works cX4_works 5 none 1 12 K (fun b => [.ref (b + o), vI l1, vI l2, vI l3, vI l4]) g (fun _ => none) r := by
  refine Con.of RX4 (by decide) rfl (fun b => Nat.le_of_ble_eq_true rfl) (fun x sz hX => ?_)
  have X := hX.1
  unfold xWatch_works at h
  show V x 5 K 0 0 sz g 0 [(0, .ref (xb x + o)), (1, vI l1), (2, vI l2), (3, vI l3), (4, vI l4)] []
  refine V_aload_n X dX4_works_0 0 rfl ?_
  refine V_get (ci := 3) (N := 15) (C := RX4) (T := TX4) (o := o) (j := 3) X rfl in_X4 (by decide) hK0 (by decide) q222 (fv_1 (i := (o + 4)) rfl rfl) dX4_works_1 ?_
  refine V_iload_n X dX4_works_4 1 rfl ?_
  refine V_iload_n X dX4_works_5 2 rfl ?_
  refine V_iast X (o := (o + 4)) (n := 4) (hW.blk (by decide) hK0 4 (by decide) rfl) (by decide) dX4_works_6 h (fun g6 h => ?_)
  refine V_aload_n X dX4_works_7 0 rfl ?_
  refine V_get (ci := 3) (N := 15) (C := RX4) (T := TX4) (o := o) (j := 5) X rfl in_X4 (by decide) hK0 (by decide) q225 (fv_1 (i := (o + 6)) rfl rfl) dX4_works_8 ?_
  refine V_iload_n X dX4_works_11 1 rfl ?_
  refine V_dup2 X dX4_works_12 rfl rfl ?_
  refine V_iald X (o := (o + 6)) (n := 4) (hW.blk (by decide) hK0 6 (by decide) rfl) (by decide) dX4_works_13 h (fun v13 h => ?_)
  refine V_iload_n X dX4_works_14 3 rfl ?_
  refine V_iadd X dX4_works_15 ?_
  refine V_iast X (o := (o + 6)) (n := 4) (hW.blk (by decide) hK0 6 (by decide) rfl) (by decide) dX4_works_16 h (fun g16 h => ?_)
  refine V_aload_n X dX4_works_17 0 rfl ?_
  refine V_get (ci := 3) (N := 15) (C := RX4) (T := TX4) (o := o) (j := 4) X rfl in_X4 (by decide) hK0 (by decide) q223 (fv_1 (i := (o + 5)) rfl rfl) dX4_works_18 ?_
  refine V_iload_n X dX4_works_21 1 rfl ?_
  refine V_dup2 X dX4_works_22 rfl rfl ?_
  refine V_iald X (o := (o + 5)) (n := 4) (hW.blk (by decide) hK0 5 (by decide) rfl) (by decide) dX4_works_23 h (fun v23 h => ?_)
  refine V_iload X dX4_works_24 4 rfl ?_
  refine V_iadd X dX4_works_26 ?_
  refine V_iast X (o := (o + 5)) (n := 4) (hW.blk (by decide) hK0 5 (by decide) rfl) (by decide) dX4_works_27 h (fun g27 h => ?_)
  have hr := Option.some.inj h
  subst hr
  exact V_end_v hX rfl dX4_works_28
set_option maxHeartbeats 4000000 in
theorem con_xWatch_longer (K : Nat → Nat) (hW : WFK K) (o : Nat) (hK0 : K o = 4) (g : GS) (l1 : Int) (l2 : Int) (r : GS) (h : xWatch_longer o g l1 l2 = some r) : Con yX4_longer cX4_longer 3 (some (.object "RainWheel$Watch")) 1 12 K (fun b => [.ref (b + o), vI l1, vI l2]) g (fun b => some (.ref (b + o))) r := by
  refine Con.of RX4 (by decide) rfl (fun b => Nat.le_of_ble_eq_true rfl) (fun x sz hX => ?_)
  have X := hX.1
  unfold xWatch_longer at h
  show V x 3 K 0 0 sz g 0 [(0, .ref (xb x + o)), (1, vI l1), (2, vI l2)] []
  refine V_aload_n X dX4_longer_0 0 rfl ?_
  refine V_iload_n X dX4_longer_1 1 rfl ?_
  refine V_put (ty := .int) (ci := 3) (N := 15) (C := RX4) (T := TX4) (o := o) (j := 12) (a := l1) X rfl in_X4 tyX4 tyX4_ok nmX4 (by decide) hK0 (by decide) rfl pfd_I rfl rfl q236 (by rw [fv_0 rfl, gI_sI, if_pos ⟨rfl, rfl⟩]) dX4_longer_2 ?_
  refine V_aload_n X dX4_longer_5 0 rfl ?_
  refine V_iload_n X dX4_longer_6 2 rfl ?_
  refine V_put (ty := .int) (ci := 3) (N := 15) (C := RX4) (T := TX4) (o := o) (j := 13) (a := l2) X rfl in_X4 tyX4 tyX4_ok nmX4 (by decide) hK0 (by decide) rfl pfd_I rfl rfl q237 (by rw [fv_0 rfl, gI_sI, if_pos ⟨rfl, rfl⟩]) dX4_longer_7 ?_
  refine V_aload_n X dX4_longer_10 0 rfl ?_
  have hr := Option.some.inj h
  subst hr
  exact V_end_a hX rfl dX4_longer_11
set_option maxHeartbeats 4000000 in
theorem con_xRoad_ahead (K : Nat → Nat) (hW : WFK K) (N : Nat) (o : Nat) (hK0 : K o = 9) (g : GS) (l1 : Int) (r : Int) (h : xRoad_ahead N o g l1 = some r) : Con yX9_ahead cX9_ahead 4 (some .int) 1 12 K (fun b => [.ref (b + o), vI l1]) g (fun _ => some (vI r)) g := by
  refine Con.of RX9 (by decide) rfl (fun b => Nat.le_of_ble_eq_true rfl) (fun x sz hX => ?_)
  have X := hX.1
  have LL11 : ∀  (n : Nat) (s : (Int × Int)) (e : Int), loopN (fun s => xRoad_ahead_b11 N o g s.1 s.2) n s = some e → (e = r) → V x 4 K 0 0 sz g 11 [(0, .ref (xb x + o)), (2, vI s.1), (3, vI s.2)] [] := by
    intro  n s e
    refine loop_walk (P := fun s => V x 4 K 0 0 sz g 11 [(0, .ref (xb x + o)), (2, vI s.1), (3, vI s.2)] []) (E := fun e => e = r) ?_ n s e
    clear e s n
    rintro ⟨l2, l3⟩ q11 h hc11 he11
    replace h : xRoad_ahead_b11 N o g l2 l3 = some q11 := h
    unfold xRoad_ahead_b11 at h
    show V x 4 K 0 0 sz g 11 [(0, .ref (xb x + o)), (2, vI l2), (3, vI l3)] []
    refine V_iload_n X dX9_ahead_11 2 rfl ?_
    refine V_if_lt (tgt := 39) X dX9_ahead_12 (by decide) h (fun h => ?_) (fun h => ?_)
    · obtain ⟨e1, h, e1q⟩ := outR_some h
      replace h := h.trans (congrArg some (he11 _ e1q))
      refine V_iload_n X dX9_ahead_39 1 rfl ?_
      have hr := Option.some.inj h
      subst hr
      exact V_end_i hX rfl dX9_ahead_40
    · refine V_iload_n X dX9_ahead_15 1 rfl ?_
      refine V_iload_n X dX9_ahead_16 2 rfl ?_
      refine V_ishr X dX9_ahead_17 ?_
      refine V_iconst X dX9_ahead_18 ?_
      refine V_iand X dX9_ahead_19 ?_
      refine V_iconst X dX9_ahead_20 ?_
      refine V_icmp_ne (tgt := 33) X dX9_ahead_21 (by decide) h (fun h => ?_) (fun h => ?_)
      · refine V_iinc X dX9_ahead_33 2 rfl (by decide) (L' := [(3, vI (l3 + (-1))), (0, .ref (xb x + o)), (2, vI l2)]) rfl ?_
        refine V_goto (tgt := 11) X dX9_ahead_36 (by decide) ?_
        exact V_sub [1, 2, 0] rfl (hc11 _ (Option.some.inj h).symm)
      · refine V_iload_n X dX9_ahead_24 1 rfl ?_
        refine V_aload_n X dX9_ahead_25 0 rfl ?_
        refine V_get (ci := 8) (N := 24) (C := RX9) (T := TX9) (o := o) (j := 5) X rfl in_X9 (by decide) hK0 (by decide) q373 (fv_1 (i := (o + 6)) rfl rfl) dX9_ahead_26 ?_
        refine V_iload_n X dX9_ahead_29 2 rfl ?_
        refine V_iald X (o := (o + 6)) (n := 12) (hW.blk (by decide) hK0 6 (by decide) rfl) (by decide) dX9_ahead_30 h (fun v30 h => ?_)
        refine V_ior X dX9_ahead_31 ?_
        refine V_istore_n X dX9_ahead_32 (by decide) (L' := [(2, vI (i_or l2 v30)), (0, .ref (xb x + o)), (3, vI l3)]) rfl ?_
        refine V_iinc X dX9_ahead_33 2 rfl (by decide) (L' := [(3, vI (l3 + (-1))), (2, vI (i_or l2 v30)), (0, .ref (xb x + o))]) rfl ?_
        refine V_goto (tgt := 11) X dX9_ahead_36 (by decide) ?_
        exact V_sub [2, 1, 0] rfl (hc11 _ (Option.some.inj h).symm)
  unfold xRoad_ahead at h
  show V x 4 K 0 0 sz g 0 [(0, .ref (xb x + o)), (1, vI l1)] []
  refine V_aload_n X dX9_ahead_0 0 rfl ?_
  refine V_get (ci := 8) (N := 24) (C := RX9) (T := TX9) (o := o) (j := 5) X rfl in_X9 (by decide) hK0 (by decide) q373 (fv_1 (i := (o + 6)) rfl rfl) dX9_ahead_1 ?_
  refine V_iload_n X dX9_ahead_4 1 rfl ?_
  refine V_iald X (o := (o + 6)) (n := 12) (hW.blk (by decide) hK0 6 (by decide) rfl) (by decide) dX9_ahead_5 h (fun v5 h => ?_)
  refine V_istore_n X dX9_ahead_6 (by decide) (L' := [(2, vI v5), (0, .ref (xb x + o)), (1, vI l1)]) rfl ?_
  refine V_iload_n X dX9_ahead_7 2 rfl ?_
  refine V_iconst X dX9_ahead_8 ?_
  refine V_isub X dX9_ahead_9 ?_
  refine V_istore_n X dX9_ahead_10 (by decide) (L' := [(3, vI (l1 - 1)), (2, vI v5), (0, .ref (xb x + o)), (1, vI l1)]) rfl ?_
  exact V_sub [2, 1, 0] rfl (LL11 N (v5, (l1 - 1)) _ h rfl)
set_option maxHeartbeats 4000000 in
theorem con_xRoad_chain_F (K : Nat → Nat) (hW : WFK K) (N : Nat) (o : Nat) (hK0 : K o = 9) (fr lo : Nat) (R_chain : GS → Int → Option Int) (H_chain : ∀ (g : GS) (a0 : Int) (r : Int), R_chain g a0 = some r → Con yX9_chain cX9_chain 4 (some .int) fr lo K (fun b => [.ref (b + o), vI a0]) g (fun _ => some (vI r)) g) (g : GS) (l1 : Int) (r : Int) (h : xRoad_chain_F N R_chain o g l1 = some r) : Con yX9_chain cX9_chain 4 (some .int) (fr + 3) (lo + 100) K (fun b => [.ref (b + o), vI l1]) g (fun _ => some (vI r)) g := by
  refine Con.of RX9 (by decide) rfl (fun b => Nat.le_of_ble_eq_true rfl) (fun x sz hX => ?_)
  have X := hX.1
  have LL4 : ∀ (l1 : Int) (n : Nat) (s : (Int × Int)) (e : (Int)), loopN (fun s => xRoad_chain_F_b4 N R_chain o g l1 s.1 s.2) n s = some e → V x 4 K 0 0 sz g 39 [(0, .ref (xb x + o)), (1, vI l1), (2, vI e)] [] → V x 4 K 0 0 sz g 4 [(0, .ref (xb x + o)), (1, vI l1), (2, vI s.1), (3, vI s.2)] [] := by
    intro l1 n s e
    refine loop_walk (P := fun s => V x 4 K 0 0 sz g 4 [(0, .ref (xb x + o)), (1, vI l1), (2, vI s.1), (3, vI s.2)] []) (E := fun e => V x 4 K 0 0 sz g 39 [(0, .ref (xb x + o)), (1, vI l1), (2, vI e)] []) ?_ n s e
    clear e s n
    rintro ⟨l2, l3⟩ q4 h hc4 he4
    replace h : xRoad_chain_F_b4 N R_chain o g l1 l2 l3 = some q4 := h
    unfold xRoad_chain_F_b4 at h
    show V x 4 K 0 0 sz g 4 [(0, .ref (xb x + o)), (1, vI l1), (2, vI l2), (3, vI l3)] []
    refine V_iload_n X dX9_chain_4 3 rfl ?_
    refine V_iload_n X dX9_chain_5 1 rfl ?_
    refine V_icmp_ge (tgt := 39) X dX9_chain_6 (by decide) h (fun h => ?_) (fun h => ?_)
    · exact V_sub [0, 1, 2] rfl (he4 _ (Option.some.inj h).symm)
    · refine V_aload_n X dX9_chain_9 0 rfl ?_
      refine V_get (ci := 8) (N := 24) (C := RX9) (T := TX9) (o := o) (j := 5) X rfl in_X9 (by decide) hK0 (by decide) q373 (fv_1 (i := (o + 6)) rfl rfl) dX9_chain_10 ?_
      refine V_iload_n X dX9_chain_13 1 rfl ?_
      refine V_iald X (o := (o + 6)) (n := 12) (hW.blk (by decide) hK0 6 (by decide) rfl) (by decide) dX9_chain_14 h (fun v14 h => ?_)
      refine V_iload_n X dX9_chain_15 3 rfl ?_
      refine V_ishr X dX9_chain_16 ?_
      refine V_iconst X dX9_chain_17 ?_
      refine V_iand X dX9_chain_18 ?_
      refine V_iconst X dX9_chain_19 ?_
      refine V_icmp_ne (tgt := 33) X dX9_chain_20 (by decide) h (fun h => ?_) (fun h => ?_)
      · refine V_iinc X dX9_chain_33 3 rfl (by decide) (L' := [(3, vI (l3 + 1)), (0, .ref (xb x + o)), (1, vI l1), (2, vI l2)]) rfl ?_
        refine V_goto (tgt := 4) X dX9_chain_36 (by decide) ?_
        exact V_sub [1, 2, 3, 0] rfl (hc4 _ (Option.some.inj h).symm)
      · refine V_iload_n X dX9_chain_23 2 rfl ?_
        refine V_aload_n X dX9_chain_24 0 rfl ?_
        refine V_iload_n X dX9_chain_25 3 rfl ?_
        obtain ⟨c26, hc26, h⟩ := bind_some_eq h
        refine V_callV (ci := 8) (N := 24) (T := TX9) (As := [vI l3]) (rest := [vI l2]) (s1 := [vI c26, vI l2]) (o := o) X (H_chain g l3 c26 hc26) gwX9_chain_85 hdV_X9_chain ⟨by dsimp only; omega, by dsimp only; omega⟩ rfl (by decide) hK0 rfl rfl (Nat.le_of_ble_eq_true rfl) ⟨Nat.zero_le _, Nat.zero_le _⟩ dX9_chain_26 rfl rfl ?_
        refine V_max X q1254 ⟨by dsimp only; omega, by dsimp only; omega⟩ (Nat.le_of_ble_eq_true rfl) ⟨Nat.zero_le _, Nat.zero_le _⟩ dX9_chain_29 ?_
        refine V_istore_n X dX9_chain_32 (by decide) (L' := [(2, vI (imax l2 c26)), (0, .ref (xb x + o)), (1, vI l1), (3, vI l3)]) rfl ?_
        refine V_iinc X dX9_chain_33 3 rfl (by decide) (L' := [(3, vI (l3 + 1)), (2, vI (imax l2 c26)), (0, .ref (xb x + o)), (1, vI l1)]) rfl ?_
        refine V_goto (tgt := 4) X dX9_chain_36 (by decide) ?_
        exact V_sub [2, 3, 1, 0] rfl (hc4 _ (Option.some.inj h).symm)
  unfold xRoad_chain_F at h
  show V x 4 K 0 0 sz g 0 [(0, .ref (xb x + o)), (1, vI l1)] []
  refine V_iconst X dX9_chain_0 ?_
  refine V_istore_n X dX9_chain_1 (by decide) (L' := [(2, vI 0), (0, .ref (xb x + o)), (1, vI l1)]) rfl ?_
  refine V_iconst X dX9_chain_2 ?_
  refine V_istore_n X dX9_chain_3 (by decide) (L' := [(3, vI 0), (2, vI 0), (0, .ref (xb x + o)), (1, vI l1)]) rfl ?_
  obtain ⟨t1, t1q, h⟩ := bind_some_eq h
  refine V_sub [2, 3, 1, 0] rfl (LL4 l1 N (0, 0) _ t1q ?_)
  refine V_iload_n X dX9_chain_39 2 rfl ?_
  refine V_aload_n X dX9_chain_40 0 rfl ?_
  refine V_get (ci := 8) (N := 24) (C := RX9) (T := TX9) (o := o) (j := 1) X rfl in_X9 (by decide) hK0 (by decide) q358 (fv_1 (i := (o + 2)) rfl rfl) dX9_chain_41 ?_
  refine V_iload_n X dX9_chain_44 1 rfl ?_
  refine V_iald X (o := (o + 2)) (n := 12) (hW.blk (by decide) hK0 2 (by decide) rfl) (by decide) dX9_chain_45 h (fun v45 h => ?_)
  refine V_iadd X dX9_chain_46 ?_
  have hr := Option.some.inj h
  subst hr
  exact V_end_i hX rfl dX9_chain_47
theorem con_xRoad_chain_R (K : Nat → Nat) (hW : WFK K) (N : Nat) (o : Nat) (hK0 : K o = 9) : ∀ (d : Nat) (g : GS) (a0 : Int) (r : Int), xRoad_chain_R N o d g a0 = some r → Con yX9_chain cX9_chain 4 (some .int) (d * 3) (d * 100) K (fun b => [.ref (b + o), vI a0]) g (fun _ => some (vI r)) g := by
  intro d
  induction d with
  | zero => intro g a0 r h; cases h
  | succ d ih =>
    intro g a0 r h
    have h2 := con_xRoad_chain_F K hW N o hK0 (d * 3) (d * 100) (xRoad_chain_R N o d) ih g a0 r h
    rwa [show d * 3 + 3 = (d + 1) * 3 by omega, show d * 100 + 100 = (d + 1) * 100 by omega] at h2
theorem con_xRoad_chain (K : Nat → Nat) (hW : WFK K) (N : Nat) (o : Nat) (hK0 : K o = 9) (g : GS) (a0 : Int) (r : Int) (h : xRoad_chain N o g a0 = some r) : Con yX9_chain cX9_chain 4 (some .int) 48 1600 K (fun b => [.ref (b + o), vI a0]) g (fun _ => some (vI r)) g := con_xRoad_chain_R K hW N o hK0 16 g a0 r h
set_option maxHeartbeats 4000000 in
theorem con_xWatch_allWet (K : Nat → Nat) (hW : WFK K) (N : Nat) (o : Nat) (hK0 : K o = 4) (g : GS) (r : Int) (h : xWatch_allWet N o g = some r) : Con yX4_allWet cX4_allWet 3 (some .int) 1 12 K (fun b => [.ref (b + o)]) g (fun _ => some (vI r)) g := by
  refine Con.of RX4 (by decide) rfl (fun b => Nat.le_of_ble_eq_true rfl) (fun x sz hX => ?_)
  have X := hX.1
  have LL4 : ∀  (n : Nat) (s : (Int × Int)) (e : Int), loopN (fun s => xWatch_allWet_b4 N o g s.1 s.2) n s = some e → (e = r) → V x 3 K 0 0 sz g 4 [(0, .ref (xb x + o)), (1, vI s.1), (2, vI s.2)] [] := by
    intro  n s e
    refine loop_walk (P := fun s => V x 3 K 0 0 sz g 4 [(0, .ref (xb x + o)), (1, vI s.1), (2, vI s.2)] []) (E := fun e => e = r) ?_ n s e
    clear e s n
    rintro ⟨l1, l2⟩ q4 h hc4 he4
    replace h : xWatch_allWet_b4 N o g l1 l2 = some q4 := h
    unfold xWatch_allWet_b4 at h
    show V x 3 K 0 0 sz g 4 [(0, .ref (xb x + o)), (1, vI l1), (2, vI l2)] []
    refine V_iload_n X dX4_allWet_4 2 rfl ?_
    refine V_iconst X dX4_allWet_5 ?_
    refine V_icmp_ge (tgt := 24) X dX4_allWet_6 (by decide) h (fun h => ?_) (fun h => ?_)
    · obtain ⟨e1, h, e1q⟩ := outR_some h
      replace h := h.trans (congrArg some (he4 _ e1q))
      refine V_iload_n X dX4_allWet_24 1 rfl ?_
      have hr := Option.some.inj h
      subst hr
      exact V_end_i hX rfl dX4_allWet_25
    · refine V_iload_n X dX4_allWet_9 1 rfl ?_
      refine V_aload_n X dX4_allWet_10 0 rfl ?_
      refine V_get (ci := 3) (N := 15) (C := RX4) (T := TX4) (o := o) (j := 4) X rfl in_X4 (by decide) hK0 (by decide) q223 (fv_1 (i := (o + 5)) rfl rfl) dX4_allWet_11 ?_
      refine V_iload_n X dX4_allWet_14 2 rfl ?_
      refine V_iald X (o := (o + 5)) (n := 4) (hW.blk (by decide) hK0 5 (by decide) rfl) (by decide) dX4_allWet_15 h (fun v15 h => ?_)
      refine V_iadd X dX4_allWet_16 ?_
      refine V_istore_n X dX4_allWet_17 (by decide) (L' := [(1, vI (l1 + v15)), (0, .ref (xb x + o)), (2, vI l2)]) rfl ?_
      refine V_iinc X dX4_allWet_18 2 rfl (by decide) (L' := [(2, vI (l2 + 1)), (1, vI (l1 + v15)), (0, .ref (xb x + o))]) rfl ?_
      refine V_goto (tgt := 4) X dX4_allWet_21 (by decide) ?_
      exact V_sub [2, 1, 0] rfl (hc4 _ (Option.some.inj h).symm)
  unfold xWatch_allWet at h
  show V x 3 K 0 0 sz g 0 [(0, .ref (xb x + o))] []
  refine V_iconst X dX4_allWet_0 ?_
  refine V_istore_n X dX4_allWet_1 (by decide) (L' := [(1, vI 0), (0, .ref (xb x + o))]) rfl ?_
  refine V_iconst X dX4_allWet_2 ?_
  refine V_istore_n X dX4_allWet_3 (by decide) (L' := [(2, vI 0), (1, vI 0), (0, .ref (xb x + o))]) rfl ?_
  exact V_sub [2, 1, 0] rfl (LL4 N (0, 0) _ h rfl)
set_option maxHeartbeats 4000000 in
theorem con_xWatch_as (K : Nat → Nat) (hW : WFK K) (o : Nat) (hK0 : K o = 4) (l1 : Nat) (hK1 : K l1 = 4) (g : GS) (r : GS) (h : xWatch_as K o l1 g = some r) : Con yX4_as cX4_as 2 (some (.object "RainWheel$Watch")) 2 60 K (fun b => [.ref (b + o), .ref (b + l1)]) g (fun b => some (.ref (b + o))) r := by
  refine Con.of RX4 (by decide) rfl (fun b => Nat.le_of_ble_eq_true rfl) (fun x sz hX => ?_)
  have X := hX.1
  unfold xWatch_as at h
  show V x 2 K 0 0 sz g 0 [(0, .ref (xb x + o)), (1, .ref (xb x + l1))] []
  refine V_aload_n X dX4_as_0 0 rfl ?_
  refine V_aload_n X dX4_as_1 1 rfl ?_
  obtain ⟨i2, hvi2, hki2, h⟩ := rdR_some h
  refine V_get (ci := 3) (N := 15) (C := RX4) (T := TX4) (o := l1) (j := 8) X rfl in_X4 (by decide) hK1 (by decide) q229 (fv_3i rfl hvi2) dX4_as_2 ?_
  refine V_put (ty := (.object "RainWheel$Road")) (ci := 3) (N := 15) (C := RX4) (T := TX4) (o := o) (j := 8) (a := (i2 : Int)) X rfl in_X4 tyX4 tyX4_ok nmX4 (by decide) hK0 (by decide) rfl pfd_Road rfl rfl q229 (fv_3i rfl (by rw [gI_sI, if_pos ⟨rfl, rfl⟩])) dX4_as_5 ?_
  refine V_aload_n X dX4_as_8 1 rfl ?_
  refine V_get (ci := 3) (N := 15) (C := RX4) (T := TX4) (o := l1) (j := 2) X rfl in_X4 (by decide) hK1 (by decide) q221 (fv_1 (i := (l1 + 3)) rfl rfl) dX4_as_9 ?_
  refine V_iconst X dX4_as_12 ?_
  refine V_aload_n X dX4_as_13 0 rfl ?_
  refine V_get (ci := 3) (N := 15) (C := RX4) (T := TX4) (o := o) (j := 2) X rfl in_X4 (by decide) hK0 (by decide) q221 (fv_1 (i := (o + 3)) rfl rfl) dX4_as_14 ?_
  refine V_iconst X dX4_as_17 ?_
  refine V_bipush X dX4_as_18 (by decide) ?_
  refine V_acopy (s0 := (l1 + 3)) (d0 := (o + 3)) (n0 := 12) (n1 := 12) (n := 12) X q1300 (hW.blk (by decide) hK1 3 (by decide) rfl) (by decide) (hW.blk (by decide) hK0 3 (by decide) rfl) (by decide) (by decide) (by decide) (by decide) (by decide) dX4_as_20 ?_
  refine V_aload_n X dX4_as_23 1 rfl ?_
  refine V_get (ci := 3) (N := 15) (C := RX4) (T := TX4) (o := l1) (j := 3) X rfl in_X4 (by decide) hK1 (by decide) q222 (fv_1 (i := (l1 + 4)) rfl rfl) dX4_as_24 ?_
  refine V_iconst X dX4_as_27 ?_
  refine V_aload_n X dX4_as_28 0 rfl ?_
  refine V_get (ci := 3) (N := 15) (C := RX4) (T := TX4) (o := o) (j := 3) X rfl in_X4 (by decide) hK0 (by decide) q222 (fv_1 (i := (o + 4)) rfl rfl) dX4_as_29 ?_
  refine V_iconst X dX4_as_32 ?_
  refine V_iconst X dX4_as_33 ?_
  refine V_acopy (s0 := (l1 + 4)) (d0 := (o + 4)) (n0 := 4) (n1 := 4) (n := 4) X q1300 (hW.blk (by decide) hK1 4 (by decide) rfl) (by decide) (hW.blk (by decide) hK0 4 (by decide) rfl) (by decide) (by decide) (by decide) (by decide) (by decide) dX4_as_34 ?_
  refine V_aload_n X dX4_as_37 1 rfl ?_
  refine V_get (ci := 3) (N := 15) (C := RX4) (T := TX4) (o := l1) (j := 4) X rfl in_X4 (by decide) hK1 (by decide) q223 (fv_1 (i := (l1 + 5)) rfl rfl) dX4_as_38 ?_
  refine V_iconst X dX4_as_41 ?_
  refine V_aload_n X dX4_as_42 0 rfl ?_
  refine V_get (ci := 3) (N := 15) (C := RX4) (T := TX4) (o := o) (j := 4) X rfl in_X4 (by decide) hK0 (by decide) q223 (fv_1 (i := (o + 5)) rfl rfl) dX4_as_43 ?_
  refine V_iconst X dX4_as_46 ?_
  refine V_iconst X dX4_as_47 ?_
  refine V_acopy (s0 := (l1 + 5)) (d0 := (o + 5)) (n0 := 4) (n1 := 4) (n := 4) X q1300 (hW.blk (by decide) hK1 5 (by decide) rfl) (by decide) (hW.blk (by decide) hK0 5 (by decide) rfl) (by decide) (by decide) (by decide) (by decide) (by decide) dX4_as_48 ?_
  refine V_aload_n X dX4_as_51 0 rfl ?_
  refine V_aload_n X dX4_as_52 1 rfl ?_
  refine V_get (ci := 3) (N := 15) (C := RX4) (T := TX4) (o := l1) (j := 9) X rfl in_X4 (by decide) hK1 (by decide) q230 (fv_0 rfl) dX4_as_53 ?_
  refine V_put (ty := .int) (ci := 3) (N := 15) (C := RX4) (T := TX4) (o := o) (j := 9) (a := (gI (cpA (cpA (cpA (sI g 308 o (i2 : Int)) (l1 + 3) (o + 3) 12) (l1 + 4) (o + 4) 4) (l1 + 5) (o + 5) 4) 309 l1)) X rfl in_X4 tyX4 tyX4_ok nmX4 (by decide) hK0 (by decide) rfl pfd_I rfl rfl q230 (by rw [fv_0 rfl, gI_sI, if_pos ⟨rfl, rfl⟩]) dX4_as_56 ?_
  refine V_aload_n X dX4_as_59 0 rfl ?_
  have hr := Option.some.inj h
  subst hr
  exact V_end_a hX rfl dX4_as_60
set_option maxHeartbeats 4000000 in
theorem con_xRoad_sinks (K : Nat → Nat) (hW : WFK K) (N : Nat) (o : Nat) (hK0 : K o = 9) (g : GS) (l1 : Int) (l2 : Int) (l3 : Int) (r : Int) (h : xRoad_sinks N o g l1 l2 l3 = some r) : Con yX9_sinks cX9_sinks 6 (some .int) 2 60 K (fun b => [.ref (b + o), vI l1, vI l2, vI l3]) g (fun _ => some (vI r)) g := by
  refine Con.of RX9 (by decide) rfl (fun b => Nat.le_of_ble_eq_true rfl) (fun x sz hX => ?_)
  have X := hX.1
  have LL6 : ∀ (l1 : Int) (l2 : Int) (l3 : Int) (n : Nat) (s : (Int × Int)) (e : (Int)), loopN (fun s => xRoad_sinks_b6 N o g l1 l2 l3 s.1 s.2) n s = some e → V x 6 K 0 0 sz g 43 [(0, .ref (xb x + o)), (1, vI l1), (3, vI l3), (4, vI e)] [] → V x 6 K 0 0 sz g 6 [(0, .ref (xb x + o)), (1, vI l1), (2, vI l2), (3, vI l3), (4, vI s.1), (5, vI s.2)] [] := by
    intro l1 l2 l3 n s e
    refine loop_walk (P := fun s => V x 6 K 0 0 sz g 6 [(0, .ref (xb x + o)), (1, vI l1), (2, vI l2), (3, vI l3), (4, vI s.1), (5, vI s.2)] []) (E := fun e => V x 6 K 0 0 sz g 43 [(0, .ref (xb x + o)), (1, vI l1), (3, vI l3), (4, vI e)] []) ?_ n s e
    clear e s n
    rintro ⟨l4, l5⟩ q6 h hc6 he6
    replace h : xRoad_sinks_b6 N o g l1 l2 l3 l4 l5 = some q6 := h
    unfold xRoad_sinks_b6 at h
    show V x 6 K 0 0 sz g 6 [(0, .ref (xb x + o)), (1, vI l1), (2, vI l2), (3, vI l3), (4, vI l4), (5, vI l5)] []
    refine V_iload X dX9_sinks_6 5 rfl ?_
    refine V_aload_n X dX9_sinks_8 0 rfl ?_
    refine V_get (ci := 8) (N := 24) (C := RX9) (T := TX9) (o := o) (j := 16) X rfl in_X9 (by decide) hK0 (by decide) q408 (fv_0 rfl) dX9_sinks_9 ?_
    refine V_icmp_ge (tgt := 43) X dX9_sinks_12 (by decide) h (fun h => ?_) (fun h => ?_)
    · exact V_sub [0, 1, 3, 4] rfl (he6 _ (Option.some.inj h).symm)
    · refine V_iload_n X dX9_sinks_15 2 rfl ?_
      refine V_iload X dX9_sinks_16 5 rfl ?_
      refine V_ishr X dX9_sinks_18 ?_
      refine V_iconst X dX9_sinks_19 ?_
      refine V_iand X dX9_sinks_20 ?_
      refine V_iconst X dX9_sinks_21 ?_
      refine V_icmp_ne (tgt := 37) X dX9_sinks_22 (by decide) h (fun h => ?_) (fun h => ?_)
      · refine V_iinc X dX9_sinks_37 5 rfl (by decide) (L' := [(5, vI (l5 + 1)), (0, .ref (xb x + o)), (1, vI l1), (2, vI l2), (3, vI l3), (4, vI l4)]) rfl ?_
        refine V_goto (tgt := 6) X dX9_sinks_40 (by decide) ?_
        exact V_sub [1, 2, 3, 4, 5, 0] rfl (hc6 _ (Option.some.inj h).symm)
      · refine V_iload X dX9_sinks_25 4 rfl ?_
        refine V_aload_n X dX9_sinks_27 0 rfl ?_
        refine V_get (ci := 8) (N := 24) (C := RX9) (T := TX9) (o := o) (j := 9) X rfl in_X9 (by decide) hK0 (by decide) q384 (fv_1 (i := (o + 10)) rfl rfl) dX9_sinks_28 ?_
        refine V_iload X dX9_sinks_31 5 rfl ?_
        refine V_iald X (o := (o + 10)) (n := 6) (hW.blk (by decide) hK0 10 (by decide) rfl) (by decide) dX9_sinks_33 h (fun v33 h => ?_)
        refine V_iadd X dX9_sinks_34 ?_
        refine V_istore X dX9_sinks_35 (by decide) (L' := [(4, vI (l4 + v33)), (0, .ref (xb x + o)), (1, vI l1), (2, vI l2), (3, vI l3), (5, vI l5)]) rfl ?_
        refine V_iinc X dX9_sinks_37 5 rfl (by decide) (L' := [(5, vI (l5 + 1)), (4, vI (l4 + v33)), (0, .ref (xb x + o)), (1, vI l1), (2, vI l2), (3, vI l3)]) rfl ?_
        refine V_goto (tgt := 6) X dX9_sinks_40 (by decide) ?_
        exact V_sub [2, 3, 4, 5, 1, 0] rfl (hc6 _ (Option.some.inj h).symm)
  unfold xRoad_sinks at h
  show V x 6 K 0 0 sz g 0 [(0, .ref (xb x + o)), (1, vI l1), (2, vI l2), (3, vI l3)] []
  refine V_iconst X dX9_sinks_0 ?_
  refine V_istore X dX9_sinks_1 (by decide) (L' := [(4, vI 1), (0, .ref (xb x + o)), (1, vI l1), (2, vI l2), (3, vI l3)]) rfl ?_
  refine V_iconst X dX9_sinks_3 ?_
  refine V_istore X dX9_sinks_4 (by decide) (L' := [(5, vI 0), (4, vI 1), (0, .ref (xb x + o)), (1, vI l1), (2, vI l2), (3, vI l3)]) rfl ?_
  obtain ⟨t1, t1q, h⟩ := bind_some_eq h
  refine V_sub [2, 3, 4, 5, 1, 0] rfl (LL6 l1 l2 l3 N (1, 0) _ t1q ?_)
  refine V_iload_n X dX9_sinks_43 2 rfl ?_
  refine V_iconst X dX9_sinks_44 ?_
  refine V_aload_n X dX9_sinks_45 0 rfl ?_
  refine V_get (ci := 8) (N := 24) (C := RX9) (T := TX9) (o := o) (j := 19) X rfl in_X9 (by decide) hK0 (by decide) q414 (fv_0 rfl) dX9_sinks_46 ?_
  refine V_iload X dX9_sinks_49 3 rfl ?_
  refine V_idiv X dX9_sinks_51 h (fun h => ?_)
  refine V_aload_n X dX9_sinks_52 0 rfl ?_
  refine V_get (ci := 8) (N := 24) (C := RX9) (T := TX9) (o := o) (j := 8) X rfl in_X9 (by decide) hK0 (by decide) q381 (fv_1 (i := (o + 9)) rfl rfl) dX9_sinks_53 ?_
  refine V_iload_n X dX9_sinks_56 1 rfl ?_
  refine V_iald X (o := (o + 9)) (n := 60) (hW.blk (by decide) hK0 9 (by decide) rfl) (by decide) dX9_sinks_57 h (fun v57 h => ?_)
  refine V_isub X dX9_sinks_58 ?_
  refine V_max X q1254 (by decide) (Nat.le_of_ble_eq_true rfl) ⟨Nat.zero_le _, Nat.zero_le _⟩ dX9_sinks_59 ?_
  refine V_imul X dX9_sinks_62 ?_
  have hr := Option.some.inj h
  subst hr
  exact V_end_i hX rfl dX9_sinks_63
set_option maxHeartbeats 4000000 in
theorem con_x_loosens (K : Nat → Nat) (hW : WFK K) (g : GS) (l1 : Int) (l2 : Int) (r : Int) (h : x_loosens K g l1 l2 = some r) : Con yX1_loosens cX1_loosens 3 (some .int) 2 60 K (fun b => [.ref (b + 0), vI l1, vI l2]) g (fun _ => some (vI r)) g := by
  refine Con.of RX1 (by decide) rfl (fun b => Nat.le_of_ble_eq_true rfl) (fun x sz hX => ?_)
  have X := hX.1
  unfold x_loosens at h
  show V x 3 K 0 0 sz g 0 [(0, .ref (xb x + 0)), (1, vI l1), (2, vI l2)] []
  refine V_iconst X dX1_loosens_0 ?_
  refine V_bipush X dX1_loosens_1 (by decide) ?_
  refine V_iconst X dX1_loosens_3 ?_
  refine V_iload_n X dX1_loosens_4 2 rfl ?_
  refine V_imul X dX1_loosens_5 ?_
  refine V_aload_n X dX1_loosens_6 0 rfl ?_
  obtain ⟨i7, hvi7, hki7, h⟩ := rdR_some h
  refine V_get (ci := 0) (N := 18) (C := RX1) (T := TX1) (o := 0) (j := 12) X rfl in_X1 (by decide) (hW.at 0 rfl) (by decide) q489 (fv_3i rfl hvi7) dX1_loosens_7 ?_
  refine V_getN (ci := 8) (N := 24) (C := RX9) (T := TX9) (o := i7) (j := 10) X rfl in_X9 (by decide) hki7 (by decide) q388 (fv_1 (i := (i7 + 11)) rfl rfl) dX1_loosens_10 ?_
  refine V_iload_n X dX1_loosens_13 1 rfl ?_
  refine V_iald X (o := (i7 + 11)) (n := 8) (hW.blk (by decide) hki7 11 (by decide) rfl) (by decide) dX1_loosens_14 h (fun v14 h => ?_)
  refine V_isub X dX1_loosens_15 ?_
  refine V_min X q997 (by decide) (Nat.le_of_ble_eq_true rfl) ⟨Nat.zero_le _, Nat.zero_le _⟩ dX1_loosens_16 ?_
  refine V_max X q678 (by decide) (Nat.le_of_ble_eq_true rfl) ⟨Nat.zero_le _, Nat.zero_le _⟩ dX1_loosens_19 ?_
  have hr := Option.some.inj h
  subst hr
  exact V_end_i hX rfl dX1_loosens_22
set_option maxHeartbeats 4000000 in
theorem con_x_meanOf (K : Nat → Nat) (hW : WFK K) (N : Nat) (g : GS) (l1 : Int) (l2 : Int) (l3 : Int) (r : Int) (h : x_meanOf N K g l1 l2 l3 = some r) : Con yX1_meanOf cX1_meanOf 7 (some .long) 2 36 K (fun b => [.ref (b + 0), vI l1, vI l2, vI l3]) g (fun _ => some (vL r)) g := by
  refine Con.of RX1 (by decide) rfl (fun b => Nat.le_of_ble_eq_true rfl) (fun x sz hX => ?_)
  have X := hX.1
  have LL6 : ∀ (l1 : Int) (l2 : Int) (l3 : Int) (n : Nat) (s : (Int × Int)) (e : (Int)), loopN (fun s => x_meanOf_b6 N K g l1 l2 l3 s.1 s.2) n s = some e → V x 7 K 0 0 sz g 66 [(0, .ref (xb x + 0)), (1, vI l1), (2, vI l2), (4, vL e)] [] → V x 7 K 0 0 sz g 6 [(0, .ref (xb x + 0)), (1, vI l1), (2, vI l2), (3, vI l3), (4, vL s.1), (6, vI s.2)] [] := by
    intro l1 l2 l3 n s e
    refine loop_walk (P := fun s => V x 7 K 0 0 sz g 6 [(0, .ref (xb x + 0)), (1, vI l1), (2, vI l2), (3, vI l3), (4, vL s.1), (6, vI s.2)] []) (E := fun e => V x 7 K 0 0 sz g 66 [(0, .ref (xb x + 0)), (1, vI l1), (2, vI l2), (4, vL e)] []) ?_ n s e
    clear e s n
    rintro ⟨l4, l6⟩ q6 h hc6 he6
    replace h : x_meanOf_b6 N K g l1 l2 l3 l4 l6 = some q6 := h
    unfold x_meanOf_b6 at h
    show V x 7 K 0 0 sz g 6 [(0, .ref (xb x + 0)), (1, vI l1), (2, vI l2), (3, vI l3), (4, vL l4), (6, vI l6)] []
    refine V_iload X dX1_meanOf_6 5 rfl ?_
    refine V_iload_n X dX1_meanOf_8 1 rfl ?_
    refine V_icmp_gt (tgt := 66) X dX1_meanOf_9 (by decide) h (fun h => ?_) (fun h => ?_)
    · exact V_sub [0, 1, 2, 4] rfl (he6 _ (Option.some.inj h).symm)
    · refine V_lload X dX1_meanOf_12 4 rfl ?_
      refine V_aload_n X dX1_meanOf_14 0 rfl ?_
      obtain ⟨i15, hvi15, hki15, h⟩ := rdR_some h
      refine V_get (ci := 0) (N := 18) (C := RX1) (T := TX1) (o := 0) (j := 12) X rfl in_X1 (by decide) (hW.at 0 rfl) (by decide) q489 (fv_3i rfl hvi15) dX1_meanOf_15 ?_
      refine V_getN (ci := 8) (N := 24) (C := RX9) (T := TX9) (o := i15) (j := 20) X rfl in_X9 (by decide) hki15 (by decide) q419 (fv_0 rfl) dX1_meanOf_18 ?_
      refine V_i2l X dX1_meanOf_21 ?_
      refine V_bipush X dX1_meanOf_22 (by decide) ?_
      refine V_aload_n X dX1_meanOf_24 0 rfl ?_
      obtain ⟨i25, hvi25, hki25, h⟩ := rdR_some h
      refine V_get (ci := 0) (N := 18) (C := RX1) (T := TX1) (o := 0) (j := 12) X rfl in_X1 (by decide) (hW.at 0 rfl) (by decide) q489 (fv_3i rfl hvi25) dX1_meanOf_25 ?_
      refine V_getN (ci := 8) (N := 24) (C := RX9) (T := TX9) (o := i25) (j := 20) X rfl in_X9 (by decide) hki25 (by decide) q419 (fv_0 rfl) dX1_meanOf_28 ?_
      refine V_isub X dX1_meanOf_31 ?_
      refine V_iload X dX1_meanOf_32 5 rfl ?_
      refine V_iconst X dX1_meanOf_34 ?_
      refine V_isub X dX1_meanOf_35 ?_
      obtain ⟨c36, hc36, h⟩ := bind_some_eq h
      refine V_callS (As := [vI (16 - (gI g 820 i25)), vI (l6 - 1)]) (rest := [vL (w32 (gI g 820 i15)), vL l4]) (s1 := [vL c36, vL (w32 (gI g 820 i15)), vL l4]) X (con_x_power K hW N g (16 - (gI g 820 i25)) (l6 - 1) c36 hc36) gwX1_power_356 hdS_X1_power (by decide) rfl rfl (Nat.le_of_ble_eq_true rfl) ⟨Nat.zero_le _, Nat.zero_le _⟩ dX1_meanOf_36 rfl rfl ?_
      refine V_lmul X dX1_meanOf_39 ?_
      refine V_bipush X dX1_meanOf_40 (by decide) ?_
      refine V_bipush X dX1_meanOf_42 (by decide) ?_
      refine V_iload X dX1_meanOf_44 5 rfl ?_
      refine V_isub X dX1_meanOf_46 ?_
      obtain ⟨c47, hc47, h⟩ := bind_some_eq h
      refine V_callS (As := [vI 16, vI (8 - l6)]) (rest := [vL ((w32 (gI g 820 i15)) * c36), vL l4]) (s1 := [vL c47, vL ((w32 (gI g 820 i15)) * c36), vL l4]) X (con_x_power K hW N g 16 (8 - l6) c47 hc47) gwX1_power_356 hdS_X1_power (by decide) rfl rfl (Nat.le_of_ble_eq_true rfl) ⟨Nat.zero_le _, Nat.zero_le _⟩ dX1_meanOf_47 rfl rfl ?_
      refine V_lmul X dX1_meanOf_50 ?_
      refine V_iload X dX1_meanOf_51 5 rfl ?_
      refine V_iload_n X dX1_meanOf_53 3 rfl ?_
      refine V_iadd X dX1_meanOf_54 ?_
      refine V_i2l X dX1_meanOf_55 ?_
      refine V_lmul X dX1_meanOf_56 ?_
      refine V_ladd X dX1_meanOf_57 ?_
      refine V_lstore X dX1_meanOf_58 (by decide) (L' := [(4, vL (l4 + ((((w32 (gI g 820 i15)) * c36) * c47) * (w32 (l6 + l3))))), (0, .ref (xb x + 0)), (1, vI l1), (2, vI l2), (3, vI l3), (6, vI l6)]) rfl ?_
      refine V_iinc X dX1_meanOf_60 5 rfl (by decide) (L' := [(6, vI (l6 + 1)), (4, vL (l4 + ((((w32 (gI g 820 i15)) * c36) * c47) * (w32 (l6 + l3))))), (0, .ref (xb x + 0)), (1, vI l1), (2, vI l2), (3, vI l3)]) rfl ?_
      refine V_goto (tgt := 6) X dX1_meanOf_63 (by decide) ?_
      exact V_sub [2, 3, 4, 5, 1, 0] rfl (hc6 _ (Option.some.inj h).symm)
  unfold x_meanOf at h
  show V x 7 K 0 0 sz g 0 [(0, .ref (xb x + 0)), (1, vI l1), (2, vI l2), (3, vI l3)] []
  refine V_lconst X (a := 0) dX1_meanOf_0 (by decide) ?_
  refine V_lstore X dX1_meanOf_1 (by decide) (L' := [(4, vL 0), (0, .ref (xb x + 0)), (1, vI l1), (2, vI l2), (3, vI l3)]) rfl ?_
  refine V_iconst X dX1_meanOf_3 ?_
  refine V_istore X dX1_meanOf_4 (by decide) (L' := [(6, vI 1), (4, vL 0), (0, .ref (xb x + 0)), (1, vI l1), (2, vI l2), (3, vI l3)]) rfl ?_
  obtain ⟨t1, t1q, h⟩ := bind_some_eq h
  refine V_sub [2, 3, 4, 5, 1, 0] rfl (LL6 l1 l2 l3 N (0, 1) _ t1q ?_)
  refine V_lload X dX1_meanOf_66 3 rfl ?_
  refine V_bipush X dX1_meanOf_68 (by decide) ?_
  refine V_aload_n X dX1_meanOf_70 0 rfl ?_
  obtain ⟨i71, hvi71, hki71, h⟩ := rdR_some h
  refine V_get (ci := 0) (N := 18) (C := RX1) (T := TX1) (o := 0) (j := 12) X rfl in_X1 (by decide) (hW.at 0 rfl) (by decide) q489 (fv_3i rfl hvi71) dX1_meanOf_71 ?_
  refine V_getN (ci := 8) (N := 24) (C := RX9) (T := TX9) (o := i71) (j := 20) X rfl in_X9 (by decide) hki71 (by decide) q419 (fv_0 rfl) dX1_meanOf_74 ?_
  refine V_isub X dX1_meanOf_77 ?_
  refine V_iload_n X dX1_meanOf_78 1 rfl ?_
  obtain ⟨c79, hc79, h⟩ := bind_some_eq h
  refine V_callS (As := [vI (16 - (gI g 820 i71)), vI l1]) (rest := [vL t1]) (s1 := [vL c79, vL t1]) X (con_x_power K hW N g (16 - (gI g 820 i71)) l1 c79 hc79) gwX1_power_356 hdS_X1_power (by decide) rfl rfl (Nat.le_of_ble_eq_true rfl) ⟨Nat.zero_le _, Nat.zero_le _⟩ dX1_meanOf_79 rfl rfl ?_
  refine V_bipush X dX1_meanOf_82 (by decide) ?_
  refine V_bipush X dX1_meanOf_84 (by decide) ?_
  refine V_iload_n X dX1_meanOf_86 1 rfl ?_
  refine V_isub X dX1_meanOf_87 ?_
  obtain ⟨c88, hc88, h⟩ := bind_some_eq h
  refine V_callS (As := [vI 16, vI (8 - l1)]) (rest := [vL c79, vL t1]) (s1 := [vL c88, vL c79, vL t1]) X (con_x_power K hW N g 16 (8 - l1) c88 hc88) gwX1_power_356 hdS_X1_power (by decide) rfl rfl (Nat.le_of_ble_eq_true rfl) ⟨Nat.zero_le _, Nat.zero_le _⟩ dX1_meanOf_88 rfl rfl ?_
  refine V_lmul X dX1_meanOf_91 ?_
  refine V_iload_n X dX1_meanOf_92 1 rfl ?_
  refine V_iload_n X dX1_meanOf_93 2 rfl ?_
  refine V_iadd X dX1_meanOf_94 ?_
  refine V_i2l X dX1_meanOf_95 ?_
  refine V_lmul X dX1_meanOf_96 ?_
  refine V_ladd X dX1_meanOf_97 ?_
  have hr := Option.some.inj h
  subst hr
  exact V_end_l hX rfl dX1_meanOf_98
set_option maxHeartbeats 4000000 in
theorem con_xRing_lacks (K : Nat → Nat) (hW : WFK K) (g : GS) (l0 : Int) (l1 : Int) (l2 : Int) (r : Int) (h : xRing_lacks l0 l1 l2 = some r) : Con yX7_lacks cX7_lacks 4 (some .int) 2 60 K (fun b => [vI l0, vI l1, vI l2]) g (fun _ => some (vI r)) g := by
  refine Con.of RX7 (by decide) rfl (fun b => Nat.le_of_ble_eq_true rfl) (fun x sz hX => ?_)
  have X := hX.1
  unfold xRing_lacks at h
  show V x 4 K 0 0 sz g 0 [(0, vI l0), (1, vI l1), (2, vI l2)] []
  refine V_iload_n X dX7_lacks_0 1 rfl ?_
  refine V_iload_n X dX7_lacks_1 2 rfl ?_
  refine V_isub X dX7_lacks_2 ?_
  refine V_abs X q1418 (by decide) (Nat.le_of_ble_eq_true rfl) ⟨Nat.zero_le _, Nat.zero_le _⟩ dX7_lacks_3 ?_
  refine V_istore_n X dX7_lacks_6 (by decide) (L' := [(3, vI (iabs (l1 - l2))), (0, vI l0), (1, vI l1), (2, vI l2)]) rfl ?_
  refine V_iload_n X dX7_lacks_7 1 rfl ?_
  refine V_iconst X dX7_lacks_8 ?_
  refine V_idivK X dX7_lacks_9 (by decide) ?_
  refine V_iload_n X dX7_lacks_10 0 rfl ?_
  refine V_iload_n X dX7_lacks_11 1 rfl ?_
  refine V_iload_n X dX7_lacks_12 0 rfl ?_
  refine V_isub X dX7_lacks_13 ?_
  refine V_min X q1419 (by decide) (Nat.le_of_ble_eq_true rfl) ⟨Nat.zero_le _, Nat.zero_le _⟩ dX7_lacks_14 ?_
  refine V_isub X dX7_lacks_17 ?_
  have hr := Option.some.inj h
  subst hr
  exact V_end_i hX rfl dX7_lacks_18
set_option maxHeartbeats 4000000 in
theorem con_xRing_tries_F (K : Nat → Nat) (hW : WFK K) (N : Nat) (fr lo : Nat) (R_tries : GS → Int → Int → Int → Option GS) (H_tries : ∀ (g : GS) (a0 a1 a2 : Int) (r : GS), R_tries g a0 a1 a2 = some r → Con yX7_tries cX7_tries 5 none fr lo K (fun b => [.ref (b + 76), vI a0, vI a1, vI a2]) g (fun _ => none) r) (g : GS) (l1 : Int) (l2 : Int) (l3 : Int) (r : GS) (h : xRing_tries_F N R_tries g l1 l2 l3 = some r) : Con yX7_tries cX7_tries 5 none (fr + 4) (lo + 123) K (fun b => [.ref (b + 76), vI l1, vI l2, vI l3]) g (fun _ => none) r := by
  refine Con.of RX7 (by decide) rfl (fun b => Nat.le_of_ble_eq_true rfl) (fun x sz hX => ?_)
  have X := hX.1
  have LL78 : ∀ (l1 : Int) (l2 : Int) (l3 : Int) (n : Nat) (s : (GS × Int)) (e : GS), loopN (fun s => xRing_tries_F_b78 N R_tries l1 l2 l3 s.1 s.2) n s = some e → (e = r) → V x 5 K 0 0 sz s.1 78 [(0, .ref (xb x + 76)), (1, vI l1), (2, vI l2), (3, vI l3), (4, vI s.2)] [] := by
    intro l1 l2 l3 n s e
    refine loop_walk (P := fun s => V x 5 K 0 0 sz s.1 78 [(0, .ref (xb x + 76)), (1, vI l1), (2, vI l2), (3, vI l3), (4, vI s.2)] []) (E := fun e => e = r) ?_ n s e
    clear e s n
    rintro ⟨g, l4⟩ q78 h hc78 he78
    replace h : xRing_tries_F_b78 N R_tries l1 l2 l3 g l4 = some q78 := h
    have J144 : ∀ (g : GS) (l4 : Int) (s0 : Int) (s1 : Int) (s2 : Int) (s3 : Int), xRing_tries_F_j144 N R_tries g l1 l2 l3 l4 s0 s1 s2 s3 = some q78 → V x 5 K 0 0 sz g 144 [(0, .ref (xb x + 76)), (1, vI l1), (2, vI l2), (3, vI l3), (4, vI l4)] [vI s0, vI s1, vI s2, vI s3, .ref (xb x + 76)] := by
      intro g l4 s0 s1 s2 s3 h
      unfold xRing_tries_F_j144 at h
      refine V_iadd X dX7_tries_144 ?_
      obtain ⟨c145, hc145, h⟩ := bind_some_eq h
      refine V_callV (ci := 6) (N := 4) (T := TX7) (As := [vI s3, vI s2, vI (s1 + s0)]) (rest := []) (s1 := []) (o := 76) X (H_tries g s3 s2 (s1 + s0) c145 hc145) gwX7_tries_32 hdV_X7_tries ⟨by dsimp only; omega, by dsimp only; omega⟩ rfl (by decide) (hW.at 76 rfl) rfl rfl (Nat.le_of_ble_eq_true rfl) ⟨Nat.zero_le _, Nat.zero_le _⟩ dX7_tries_145 rfl rfl ?_
      refine V_iinc X dX7_tries_148 4 rfl (by decide) (L' := [(4, vI (l4 + 1)), (0, .ref (xb x + 76)), (1, vI l1), (2, vI l2), (3, vI l3)]) rfl ?_
      refine V_goto (tgt := 78) X dX7_tries_151 (by decide) ?_
      exact V_sub [1, 2, 3, 4, 0] rfl (hc78 _ (Option.some.inj h).symm)
    unfold xRing_tries_F_b78 at h
    show V x 5 K 0 0 sz g 78 [(0, .ref (xb x + 76)), (1, vI l1), (2, vI l2), (3, vI l3), (4, vI l4)] []
    refine V_iload X dX7_tries_78 4 rfl ?_
    refine V_aload_n X dX7_tries_80 0 rfl ?_
    refine V_get (ci := 6) (N := 4) (C := RX7) (T := TX7) (o := 76) (j := 1) X rfl in_X7 (by decide) (hW.at 76 rfl) (by decide) q312 (fv_0 rfl) dX7_tries_81 ?_
    refine V_icmp_ge (tgt := 154) X dX7_tries_84 (by decide) h (fun h => ?_) (fun h => ?_)
    · obtain ⟨e1, h, e1q⟩ := outR_some h
      replace h := h.trans (congrArg some (he78 _ e1q))
      have hr := Option.some.inj h
      subst hr
      exact V_end_v hX rfl dX7_tries_154
    · refine V_iload_n X dX7_tries_87 2 rfl ?_
      refine V_iload X dX7_tries_88 4 rfl ?_
      refine V_ishr X dX7_tries_90 ?_
      refine V_iconst X dX7_tries_91 ?_
      refine V_iand X dX7_tries_92 ?_
      refine V_iconst X dX7_tries_93 ?_
      refine V_icmp_ne (tgt := 100) X dX7_tries_94 (by decide) h (fun h => ?_) (fun h => ?_)
      · refine V_aload_n X dX7_tries_100 0 rfl ?_
        refine V_get (ci := 6) (N := 4) (C := RX7) (T := TX7) (o := 76) (j := 0) X rfl in_X7 (by decide) (hW.at 76 rfl) (by decide) q311 (fv_1 (i := 77) rfl rfl) dX7_tries_101 ?_
        refine V_iload_n X dX7_tries_104 1 rfl ?_
        refine V_iload X dX7_tries_105 4 rfl ?_
        refine V_iast X (o := 77) (n := 6) (hW.at 77 rfl) (by decide) dX7_tries_107 h (fun g107 h => ?_)
        refine V_aload_n X dX7_tries_108 0 rfl ?_
        refine V_iload_n X dX7_tries_109 1 rfl ?_
        refine V_iconst X dX7_tries_110 ?_
        refine V_iadd X dX7_tries_111 ?_
        refine V_iload_n X dX7_tries_112 2 rfl ?_
        refine V_iconst X dX7_tries_113 ?_
        refine V_iload X dX7_tries_114 4 rfl ?_
        refine V_ishl X dX7_tries_116 ?_
        refine V_ior X dX7_tries_117 ?_
        refine V_iload_n X dX7_tries_118 3 rfl ?_
        refine V_iload_n X dX7_tries_119 1 rfl ?_
        refine V_if_ne (tgt := 127) X dX7_tries_120 (by decide) h (fun h => ?_) (fun h => ?_)
        · refine V_aload_n X dX7_tries_127 0 rfl ?_
          refine V_get (ci := 6) (N := 4) (C := RX7) (T := TX7) (o := 76) (j := 1) X rfl in_X7 (by decide) (hW.at 76 rfl) (by decide) q312 (fv_0 rfl) dX7_tries_128 ?_
          refine V_aload_n X dX7_tries_131 0 rfl ?_
          refine V_get (ci := 6) (N := 4) (C := RX7) (T := TX7) (o := 76) (j := 0) X rfl in_X7 (by decide) (hW.at 76 rfl) (by decide) q311 (fv_1 (i := 77) rfl rfl) dX7_tries_132 ?_
          refine V_iload_n X dX7_tries_135 1 rfl ?_
          refine V_iconst X dX7_tries_136 ?_
          refine V_isub X dX7_tries_137 ?_
          refine V_iald X (o := 77) (n := 6) (hW.at 77 rfl) (by decide) dX7_tries_138 h (fun v138 h => ?_)
          refine V_iload X dX7_tries_139 4 rfl ?_
          obtain ⟨c141, hc141, h⟩ := bind_some_eq h
          refine V_callS (As := [vI (gI g107 601 76), vI v138, vI l4]) (rest := [vI l3, vI (i_or l2 (i_shl 1 l4)), vI (l1 + 1), .ref (xb x + 76)]) (s1 := [vI c141, vI l3, vI (i_or l2 (i_shl 1 l4)), vI (l1 + 1), .ref (xb x + 76)]) X (con_xRing_lacks K hW g107 (gI g107 601 76) v138 l4 c141 hc141) gwX7_lacks_39 hdS_X7_lacks ⟨by dsimp only; omega, by dsimp only; omega⟩ rfl rfl (Nat.le_of_ble_eq_true rfl) ⟨Nat.zero_le _, Nat.zero_le _⟩ dX7_tries_141 rfl rfl ?_
          exact V_sub [0, 1, 2, 3, 4] rfl (J144 _ _ _ _ _ _ h)
        · refine V_iconst X dX7_tries_123 ?_
          refine V_goto (tgt := 144) X dX7_tries_124 (by decide) ?_
          exact V_sub [0, 1, 2, 3, 4] rfl (J144 _ _ _ _ _ _ h)
      · refine V_goto (tgt := 148) X dX7_tries_97 (by decide) ?_
        refine V_iinc X dX7_tries_148 4 rfl (by decide) (L' := [(4, vI (l4 + 1)), (0, .ref (xb x + 76)), (1, vI l1), (2, vI l2), (3, vI l3)]) rfl ?_
        refine V_goto (tgt := 78) X dX7_tries_151 (by decide) ?_
        exact V_sub [1, 2, 3, 4, 0] rfl (hc78 _ (Option.some.inj h).symm)
  have LL38 : ∀  (n : Nat) (s : (GS × Int)) (e : GS), loopN (fun s => xRing_tries_F_b38 N R_tries s.1 s.2) n s = some e → (e = r) → V x 5 K 0 0 sz s.1 38 [(0, .ref (xb x + 76)), (4, vI s.2)] [] := by
    intro  n s e
    refine loop_walk (P := fun s => V x 5 K 0 0 sz s.1 38 [(0, .ref (xb x + 76)), (4, vI s.2)] []) (E := fun e => e = r) ?_ n s e
    clear e s n
    rintro ⟨g, l4⟩ q38 h hc38 he38
    replace h : xRing_tries_F_b38 N R_tries g l4 = some q38 := h
    unfold xRing_tries_F_b38 at h
    show V x 5 K 0 0 sz g 38 [(0, .ref (xb x + 76)), (4, vI l4)] []
    refine V_iload X dX7_tries_38 1 rfl ?_
    refine V_aload_n X dX7_tries_40 0 rfl ?_
    refine V_get (ci := 6) (N := 4) (C := RX7) (T := TX7) (o := 76) (j := 1) X rfl in_X7 (by decide) (hW.at 76 rfl) (by decide) q312 (fv_0 rfl) dX7_tries_41 ?_
    refine V_icmp_ge (tgt := 74) X dX7_tries_44 (by decide) h (fun h => ?_) (fun h => ?_)
    · obtain ⟨e2, h, e2q⟩ := outR_some h
      replace h := h.trans (congrArg some (he38 _ e2q))
      have hr := Option.some.inj h
      subst hr
      exact V_end_v hX rfl dX7_tries_74
    · refine V_aload_n X dX7_tries_47 0 rfl ?_
      refine V_bipush X dX7_tries_48 (by decide) ?_
      refine V_aload_n X dX7_tries_50 0 rfl ?_
      refine V_get (ci := 6) (N := 4) (C := RX7) (T := TX7) (o := 76) (j := 3) X rfl in_X7 (by decide) (hW.at 76 rfl) (by decide) q315 (fv_0 rfl) dX7_tries_51 ?_
      refine V_imul X dX7_tries_54 ?_
      refine V_aload_n X dX7_tries_55 0 rfl ?_
      refine V_get (ci := 6) (N := 4) (C := RX7) (T := TX7) (o := 76) (j := 0) X rfl in_X7 (by decide) (hW.at 76 rfl) (by decide) q311 (fv_1 (i := 77) rfl rfl) dX7_tries_56 ?_
      refine V_iload X dX7_tries_59 1 rfl ?_
      refine V_iald X (o := 77) (n := 6) (hW.at 77 rfl) (by decide) dX7_tries_61 h (fun v61 h => ?_)
      refine V_iadd X dX7_tries_62 ?_
      refine V_iconst X dX7_tries_63 ?_
      refine V_iadd X dX7_tries_64 ?_
      refine V_put (ty := .int) (ci := 6) (N := 4) (C := RX7) (T := TX7) (o := 76) (j := 3) (a := (((10 * (gI g 603 76)) + v61) + 1)) X rfl in_X7 tyX7 tyX7_ok nmX7 (by decide) (hW.at 76 rfl) (by decide) rfl pfd_I rfl rfl q315 (by rw [fv_0 rfl, gI_sI, if_pos ⟨rfl, rfl⟩]) dX7_tries_65 ?_
      refine V_iinc X dX7_tries_68 1 rfl (by decide) (L' := [(4, vI (l4 + 1)), (0, .ref (xb x + 76))]) rfl ?_
      refine V_goto (tgt := 38) X dX7_tries_71 (by decide) ?_
      exact V_sub [1, 0] rfl (hc38 _ (Option.some.inj h).symm)
  have J17 : ∀ (g : GS) (l1 : Int) (l2 : Int) (l3 : Int), xRing_tries_F_j17 N R_tries g l1 l2 l3 = some r → V x 5 K 0 0 sz g 17 [(0, .ref (xb x + 76)), (1, vI l1), (2, vI l2), (3, vI l3)] [] := by
    intro g l1 l2 l3 h
    unfold xRing_tries_F_j17 at h
    refine V_iload_n X dX7_tries_17 1 rfl ?_
    refine V_aload_n X dX7_tries_18 0 rfl ?_
    refine V_get (ci := 6) (N := 4) (C := RX7) (T := TX7) (o := 76) (j := 1) X rfl in_X7 (by decide) (hW.at 76 rfl) (by decide) q312 (fv_0 rfl) dX7_tries_19 ?_
    refine V_icmp_ne (tgt := 75) X dX7_tries_22 (by decide) h (fun h => ?_) (fun h => ?_)
    · refine V_iconst X dX7_tries_75 ?_
      refine V_istore X dX7_tries_76 (by decide) (L' := [(4, vI 0), (0, .ref (xb x + 76)), (1, vI l1), (2, vI l2), (3, vI l3)]) rfl ?_
      exact V_sub [1, 2, 3, 4, 0] rfl (LL78 l1 l2 l3 N (g, 0) _ h rfl)
    · refine V_aload_n X dX7_tries_25 0 rfl ?_
      refine V_iload_n X dX7_tries_26 3 rfl ?_
      refine V_put (ty := .int) (ci := 6) (N := 4) (C := RX7) (T := TX7) (o := 76) (j := 2) (a := l3) X rfl in_X7 tyX7 tyX7_ok nmX7 (by decide) (hW.at 76 rfl) (by decide) rfl pfd_I rfl rfl q313 (by rw [fv_0 rfl, gI_sI, if_pos ⟨rfl, rfl⟩]) dX7_tries_27 ?_
      refine V_aload_n X dX7_tries_30 0 rfl ?_
      refine V_iconst X dX7_tries_31 ?_
      refine V_put (ty := .int) (ci := 6) (N := 4) (C := RX7) (T := TX7) (o := 76) (j := 3) (a := 0) X rfl in_X7 tyX7 tyX7_ok nmX7 (by decide) (hW.at 76 rfl) (by decide) rfl pfd_I rfl rfl q315 (by rw [fv_0 rfl, gI_sI, if_pos ⟨rfl, rfl⟩]) dX7_tries_32 ?_
      refine V_iconst X dX7_tries_35 ?_
      refine V_istore X dX7_tries_36 (by decide) (L' := [(4, vI 0), (0, .ref (xb x + 76)), (1, vI l1), (2, vI l2), (3, vI l3)]) rfl ?_
      exact V_sub [1, 0] rfl (LL38 N ((sI (sI g 602 76 l3) 603 76 0), 0) _ h rfl)
  unfold xRing_tries_F at h
  show V x 5 K 0 0 sz g 0 [(0, .ref (xb x + 76)), (1, vI l1), (2, vI l2), (3, vI l3)] []
  refine V_aload_n X dX7_tries_0 0 rfl ?_
  refine V_get (ci := 6) (N := 4) (C := RX7) (T := TX7) (o := 76) (j := 2) X rfl in_X7 (by decide) (hW.at 76 rfl) (by decide) q313 (fv_0 rfl) dX7_tries_1 ?_
  refine V_iconst X dX7_tries_4 ?_
  refine V_icmp_eq (tgt := 17) X dX7_tries_5 (by decide) h (fun h => ?_) (fun h => ?_)
  · exact V_sub [0, 1, 2, 3] rfl (J17 _ _ _ _ h)
  · refine V_iload_n X dX7_tries_8 3 rfl ?_
    refine V_aload_n X dX7_tries_9 0 rfl ?_
    refine V_get (ci := 6) (N := 4) (C := RX7) (T := TX7) (o := 76) (j := 2) X rfl in_X7 (by decide) (hW.at 76 rfl) (by decide) q313 (fv_0 rfl) dX7_tries_10 ?_
    refine V_icmp_lt (tgt := 17) X dX7_tries_13 (by decide) h (fun h => ?_) (fun h => ?_)
    · exact V_sub [0, 1, 2, 3] rfl (J17 _ _ _ _ h)
    · have hr := Option.some.inj h
      subst hr
      exact V_end_v hX rfl dX7_tries_16
theorem con_xRing_tries_R (K : Nat → Nat) (hW : WFK K) (N : Nat) : ∀ (d : Nat) (g : GS) (a0 a1 a2 : Int) (r : GS), xRing_tries_R N d g a0 a1 a2 = some r → Con yX7_tries cX7_tries 5 none (d * 4) (d * 123) K (fun b => [.ref (b + 76), vI a0, vI a1, vI a2]) g (fun _ => none) r := by
  intro d
  induction d with
  | zero => intro g a0 a1 a2 r h; cases h
  | succ d ih =>
    intro g a0 a1 a2 r h
    have h2 := con_xRing_tries_F K hW N (d * 4) (d * 123) (xRing_tries_R N d) ih g a0 a1 a2 r h
    rwa [show d * 4 + 4 = (d + 1) * 4 by omega, show d * 123 + 123 = (d + 1) * 123 by omega] at h2
theorem con_xRing_tries (K : Nat → Nat) (hW : WFK K) (N : Nat) (g : GS) (a0 a1 a2 : Int) (r : GS) (h : xRing_tries N g a0 a1 a2 = some r) : Con yX7_tries cX7_tries 5 none 64 1968 K (fun b => [.ref (b + 76), vI a0, vI a1, vI a2]) g (fun _ => none) r := con_xRing_tries_R K hW N 16 g a0 a1 a2 r h
set_option maxHeartbeats 4000000 in
theorem con_xRing_finds (K : Nat → Nat) (hW : WFK K) (N : Nat) (g : GS) (l1 : Int) (r : GS) (h : xRing_finds N g l1 = some r) : Con yX7_finds cX7_finds 2 none 65 1992 K (fun b => [.ref (b + 76), vI l1]) g (fun _ => none) r := by
  refine Con.of RX7 (by decide) rfl (fun b => Nat.le_of_ble_eq_true rfl) (fun x sz hX => ?_)
  have X := hX.1
  unfold xRing_finds at h
  show V x 2 K 0 0 sz g 0 [(0, .ref (xb x + 76)), (1, vI l1)] []
  refine V_aload_n X dX7_finds_0 0 rfl ?_
  refine V_iload_n X dX7_finds_1 1 rfl ?_
  refine V_put (ty := .int) (ci := 6) (N := 4) (C := RX7) (T := TX7) (o := 76) (j := 1) (a := l1) X rfl in_X7 tyX7 tyX7_ok nmX7 (by decide) (hW.at 76 rfl) (by decide) rfl pfd_I rfl rfl q312 (by rw [fv_0 rfl, gI_sI, if_pos ⟨rfl, rfl⟩]) dX7_finds_2 ?_
  refine V_aload_n X dX7_finds_5 0 rfl ?_
  refine V_iconst X dX7_finds_6 ?_
  refine V_put (ty := .int) (ci := 6) (N := 4) (C := RX7) (T := TX7) (o := 76) (j := 2) (a := (-1)) X rfl in_X7 tyX7 tyX7_ok nmX7 (by decide) (hW.at 76 rfl) (by decide) rfl pfd_I rfl rfl q313 (by rw [fv_0 rfl, gI_sI, if_pos ⟨rfl, rfl⟩]) dX7_finds_7 ?_
  refine V_aload_n X dX7_finds_10 0 rfl ?_
  refine V_iconst X dX7_finds_11 ?_
  refine V_iconst X dX7_finds_12 ?_
  refine V_iconst X dX7_finds_13 ?_
  obtain ⟨c14, hc14, h⟩ := bind_some_eq h
  refine V_callV (ci := 6) (N := 4) (T := TX7) (As := [vI 0, vI 0, vI 0]) (rest := []) (s1 := []) (o := 76) X (con_xRing_tries K hW N (sI (sI g 601 76 l1) 602 76 (-1)) 0 0 0 c14 hc14) gwX7_tries_32 hdV_X7_tries (by decide) rfl (by decide) (hW.at 76 rfl) rfl rfl (Nat.le_of_ble_eq_true rfl) ⟨Nat.zero_le _, Nat.zero_le _⟩ dX7_finds_14 rfl rfl ?_
  have hr := Option.some.inj h
  subst hr
  exact V_end_v hX rfl dX7_finds_17
set_option maxHeartbeats 4000000 in
theorem con_xMiles_asks (K : Nat → Nat) (hW : WFK K) (N : Nat) (g : GS) (l1 : Int) (l2 : Int) (r : GS) (h : xMiles_asks N g l1 l2 = some r) : Con yX8_asks cX8_asks 10 none 2 60 K (fun b => [.ref (b + 78), vI l1, vI l2]) g (fun _ => none) r := by
  refine Con.of RX8 (by decide) rfl (fun b => Nat.le_of_ble_eq_true rfl) (fun x sz hX => ?_)
  have X := hX.1
  have LL8 : ∀ (g : GS) (l1 : Int) (l2 : Int) (n : Nat) (s : (Int × Int × Int)) (e : (Int × Int)), loopN (fun s => xMiles_asks_b8 N g l1 l2 s.1 s.2.1 s.2.2) n s = some e → V x 10 K 0 0 sz g 141 [(0, .ref (xb x + 78)), (1, vI l1), (3, vI e.1), (4, vI e.2)] [] → V x 10 K 0 0 sz g 8 [(0, .ref (xb x + 78)), (1, vI l1), (2, vI l2), (3, vI s.1), (4, vI s.2.1), (5, vI s.2.2)] [] := by
    intro g l1 l2 n s e
    refine loop_walk (P := fun s => V x 10 K 0 0 sz g 8 [(0, .ref (xb x + 78)), (1, vI l1), (2, vI l2), (3, vI s.1), (4, vI s.2.1), (5, vI s.2.2)] []) (E := fun e => V x 10 K 0 0 sz g 141 [(0, .ref (xb x + 78)), (1, vI l1), (3, vI e.1), (4, vI e.2)] []) ?_ n s e
    clear e s n
    rintro ⟨l3, l4, l5⟩ q8 h hc8 he8
    replace h : xMiles_asks_b8 N g l1 l2 l3 l4 l5 = some q8 := h
    have J128 : ∀ (l5 : Int) (l8 : Int) (l9 : Int), xMiles_asks_j128 N g l1 l2 l5 l8 l9 = some q8 → V x 10 K 0 0 sz g 128 [(0, .ref (xb x + 78)), (1, vI l1), (2, vI l2), (5, vI l5), (8, vI l8), (9, vI l9)] [] := by
      intro l5 l8 l9 h
      unfold xMiles_asks_j128 at h
      refine V_iload X dX8_asks_128 4 rfl ?_
      refine V_istore_n X dX8_asks_130 (by decide) (L' := [(3, vI l8), (0, .ref (xb x + 78)), (1, vI l1), (2, vI l2), (5, vI l5), (8, vI l8), (9, vI l9)]) rfl ?_
      refine V_iload X dX8_asks_131 6 rfl ?_
      refine V_istore X dX8_asks_133 (by decide) (L' := [(4, vI l9), (3, vI l8), (0, .ref (xb x + 78)), (1, vI l1), (2, vI l2), (5, vI l5), (8, vI l8), (9, vI l9)]) rfl ?_
      refine V_iinc X dX8_asks_135 5 rfl (by decide) (L' := [(5, vI (l5 + 1)), (4, vI l9), (3, vI l8), (0, .ref (xb x + 78)), (1, vI l1), (2, vI l2), (8, vI l8), (9, vI l9)]) rfl ?_
      refine V_goto (tgt := 8) X dX8_asks_138 (by decide) ?_
      exact V_sub [3, 4, 5, 2, 1, 0] rfl (hc8 _ (Option.some.inj h).symm)
    have J55 : ∀ (l3 : Int) (l4 : Int) (l5 : Int) (l6 : Int) (s0 : Int), xMiles_asks_j55 N g l1 l2 l3 l4 l5 l6 s0 = some q8 → V x 10 K 0 0 sz g 55 [(0, .ref (xb x + 78)), (1, vI l1), (2, vI l2), (3, vI l3), (4, vI l4), (5, vI l5), (6, vI l6)] [vI s0] := by
      intro l3 l4 l5 l6 s0 h
      unfold xMiles_asks_j55 at h
      refine V_istore X dX8_asks_55 (by decide) (L' := [(7, vI s0), (0, .ref (xb x + 78)), (1, vI l1), (2, vI l2), (3, vI l3), (4, vI l4), (5, vI l5), (6, vI l6)]) rfl ?_
      refine V_iconst X dX8_asks_57 ?_
      refine V_iload X dX8_asks_58 6 rfl ?_
      refine V_imul X dX8_asks_60 ?_
      refine V_iconst X dX8_asks_61 ?_
      refine V_iadd X dX8_asks_62 ?_
      refine V_iconst X dX8_asks_63 ?_
      refine V_bipush X dX8_asks_64 (by decide) ?_
      refine V_iload X dX8_asks_66 7 rfl ?_
      refine V_isub X dX8_asks_68 ?_
      refine V_max X q1451 (by decide) (Nat.le_of_ble_eq_true rfl) ⟨Nat.zero_le _, Nat.zero_le _⟩ dX8_asks_69 ?_
      refine V_bipush X dX8_asks_72 (by decide) ?_
      refine V_iadd X dX8_asks_74 ?_
      refine V_bipush X dX8_asks_75 (by decide) ?_
      refine V_idivK X dX8_asks_77 (by decide) ?_
      refine V_iadd X dX8_asks_78 ?_
      refine V_aload_n X dX8_asks_79 1 rfl ?_
      refine V_get (ci := 7) (N := 4) (C := RX8) (T := TX8) (o := 78) (j := 0) X rfl in_X8 (by decide) (hW.at 78 rfl) (by decide) q332 (fv_1 (i := 79) rfl rfl) dX8_asks_80 ?_
      refine V_iload X dX8_asks_83 0 rfl ?_
      refine V_iald X (o := 79) (n := 100) (hW.at 79 rfl) (by decide) dX8_asks_85 h (fun v85 h => ?_)
      refine V_iadd X dX8_asks_86 ?_
      refine V_istore X dX8_asks_87 (by decide) (L' := [(8, vI ((((4 * l5) + 2) + (i_div ((imax 0 (30 - l6)) + 9) 10)) + v85)), (7, vI s0), (0, .ref (xb x + 78)), (1, vI l1), (2, vI l2), (3, vI l3), (4, vI l4), (5, vI l5), (6, vI l6)]) rfl ?_
      refine V_iload X dX8_asks_89 7 rfl ?_
      refine V_aload_n X dX8_asks_91 2 rfl ?_
      refine V_get (ci := 7) (N := 4) (C := RX8) (T := TX8) (o := 78) (j := 1) X rfl in_X8 (by decide) (hW.at 78 rfl) (by decide) q334 (fv_1 (i := 80) rfl rfl) dX8_asks_92 ?_
      refine V_iload X dX8_asks_95 1 rfl ?_
      refine V_iald X (o := 80) (n := 100) (hW.at 80 rfl) (by decide) dX8_asks_97 h (fun v97 h => ?_)
      refine V_iadd X dX8_asks_98 ?_
      refine V_istore X dX8_asks_99 (by decide) (L' := [(9, vI (l5 + v97)), (8, vI ((((4 * l5) + 2) + (i_div ((imax 0 (30 - l6)) + 9) 10)) + v85)), (7, vI s0), (0, .ref (xb x + 78)), (1, vI l1), (2, vI l2), (3, vI l3), (4, vI l4), (5, vI l5), (6, vI l6)]) rfl ?_
      refine V_iload_n X dX8_asks_101 6 rfl ?_
      refine V_iconst X dX8_asks_102 ?_
      refine V_icmp_eq (tgt := 128) X dX8_asks_103 (by decide) h (fun h => ?_) (fun h => ?_)
      · exact V_sub [3, 4, 5, 8, 1, 0] rfl (J128 _ _ _ h)
      · refine V_iload X dX8_asks_106 1 rfl ?_
        refine V_iload_n X dX8_asks_108 6 rfl ?_
        refine V_icmp_gt (tgt := 135) X dX8_asks_109 (by decide) h (fun h => ?_) (fun h => ?_)
        · refine V_iinc X dX8_asks_135 8 rfl (by decide) (L' := [(5, vI (l5 + 1)), (9, vI (l5 + v97)), (8, vI ((((4 * l5) + 2) + (i_div ((imax 0 (30 - l6)) + 9) 10)) + v85)), (7, vI s0), (0, .ref (xb x + 78)), (1, vI l1), (2, vI l2), (3, vI l3), (4, vI l4), (6, vI l6)]) rfl ?_
          refine V_goto (tgt := 8) X dX8_asks_138 (by decide) ?_
          exact V_sub [4, 5, 6, 7, 8, 0] rfl (hc8 _ (Option.some.inj h).symm)
        · refine V_iload X dX8_asks_112 1 rfl ?_
          refine V_iload_n X dX8_asks_114 6 rfl ?_
          refine V_icmp_ne (tgt := 128) X dX8_asks_115 (by decide) h (fun h => ?_) (fun h => ?_)
          · exact V_sub [3, 4, 5, 8, 1, 0] rfl (J128 _ _ _ h)
          · refine V_iload X dX8_asks_118 0 rfl ?_
            refine V_iload X dX8_asks_120 7 rfl ?_
            refine V_icmp_lt (tgt := 128) X dX8_asks_122 (by decide) h (fun h => ?_) (fun h => ?_)
            · exact V_sub [3, 4, 5, 8, 1, 0] rfl (J128 _ _ _ h)
            · refine V_goto (tgt := 135) X dX8_asks_125 (by decide) ?_
              refine V_iinc X dX8_asks_135 8 rfl (by decide) (L' := [(5, vI (l5 + 1)), (9, vI (l5 + v97)), (8, vI ((((4 * l5) + 2) + (i_div ((imax 0 (30 - l6)) + 9) 10)) + v85)), (7, vI s0), (0, .ref (xb x + 78)), (1, vI l1), (2, vI l2), (3, vI l3), (4, vI l4), (6, vI l6)]) rfl ?_
              refine V_goto (tgt := 8) X dX8_asks_138 (by decide) ?_
              exact V_sub [4, 5, 6, 7, 8, 0] rfl (hc8 _ (Option.some.inj h).symm)
    unfold xMiles_asks_b8 at h
    show V x 10 K 0 0 sz g 8 [(0, .ref (xb x + 78)), (1, vI l1), (2, vI l2), (3, vI l3), (4, vI l4), (5, vI l5)] []
    refine V_iload X dX8_asks_8 5 rfl ?_
    refine V_bipush X dX8_asks_10 (by decide) ?_
    refine V_icmp_gt (tgt := 141) X dX8_asks_12 (by decide) h (fun h => ?_) (fun h => ?_)
    · exact V_sub [0, 1, 3, 4] rfl (he8 _ (Option.some.inj h).symm)
    · refine V_bipush X dX8_asks_15 (by decide) ?_
      refine V_iload_n X dX8_asks_17 1 rfl ?_
      refine V_bipush X dX8_asks_18 (by decide) ?_
      refine V_iload X dX8_asks_20 5 rfl ?_
      refine V_imul X dX8_asks_22 ?_
      refine V_iadd X dX8_asks_23 ?_
      refine V_min X q1450 (by decide) (Nat.le_of_ble_eq_true rfl) ⟨Nat.zero_le _, Nat.zero_le _⟩ dX8_asks_24 ?_
      refine V_istore X dX8_asks_27 (by decide) (L' := [(6, vI (imin 99 (l1 + (10 * l5)))), (0, .ref (xb x + 78)), (1, vI l1), (2, vI l2), (3, vI l3), (4, vI l4), (5, vI l5)]) rfl ?_
      refine V_iload X dX8_asks_29 0 rfl ?_
      refine V_iconst X dX8_asks_31 ?_
      refine V_icmp_ge (tgt := 38) X dX8_asks_32 (by decide) h (fun h => ?_) (fun h => ?_)
      · refine V_iload_n X dX8_asks_38 3 rfl ?_
        refine V_if_eq (tgt := 53) X dX8_asks_39 (by decide) h (fun h => ?_) (fun h => ?_)
        · refine V_iload X dX8_asks_53 0 rfl ?_
          exact V_sub [1, 2, 3, 4, 5, 6, 0] rfl (J55 _ _ _ _ _ h)
        · refine V_iconst X dX8_asks_42 ?_
          refine V_iload X dX8_asks_43 0 rfl ?_
          refine V_iconst X dX8_asks_45 ?_
          refine V_isub X dX8_asks_46 ?_
          refine V_max X q1451 (by decide) (Nat.le_of_ble_eq_true rfl) ⟨Nat.zero_le _, Nat.zero_le _⟩ dX8_asks_47 ?_
          refine V_goto (tgt := 55) X dX8_asks_50 (by decide) ?_
          exact V_sub [1, 2, 3, 4, 5, 6, 0] rfl (J55 _ _ _ _ _ h)
      · refine V_goto (tgt := 135) X dX8_asks_35 (by decide) ?_
        refine V_iinc X dX8_asks_135 6 rfl (by decide) (L' := [(5, vI (l5 + 1)), (6, vI (imin 99 (l1 + (10 * l5)))), (0, .ref (xb x + 78)), (1, vI l1), (2, vI l2), (3, vI l3), (4, vI l4)]) rfl ?_
        refine V_goto (tgt := 8) X dX8_asks_138 (by decide) ?_
        exact V_sub [2, 3, 4, 5, 6, 0] rfl (hc8 _ (Option.some.inj h).symm)
  unfold xMiles_asks at h
  show V x 10 K 0 0 sz g 0 [(0, .ref (xb x + 78)), (1, vI l1), (2, vI l2)] []
  refine V_iconst X dX8_asks_0 ?_
  refine V_istore_n X dX8_asks_1 (by decide) (L' := [(3, vI (-1)), (0, .ref (xb x + 78)), (1, vI l1), (2, vI l2)]) rfl ?_
  refine V_iconst X dX8_asks_2 ?_
  refine V_istore X dX8_asks_3 (by decide) (L' := [(4, vI 0), (3, vI (-1)), (0, .ref (xb x + 78)), (1, vI l1), (2, vI l2)]) rfl ?_
  refine V_iconst X dX8_asks_5 ?_
  refine V_istore X dX8_asks_6 (by decide) (L' := [(5, vI 0), (4, vI 0), (3, vI (-1)), (0, .ref (xb x + 78)), (1, vI l1), (2, vI l2)]) rfl ?_
  obtain ⟨t1, t1q, h⟩ := bind_some_eq h
  refine V_sub [3, 4, 5, 2, 1, 0] rfl (LL8 g l1 l2 N ((-1), 0, 0) _ t1q ?_)
  refine V_aload_n X dX8_asks_141 0 rfl ?_
  refine V_get (ci := 7) (N := 4) (C := RX8) (T := TX8) (o := 78) (j := 2) X rfl in_X8 (by decide) (hW.at 78 rfl) (by decide) q336 (fv_1 (i := 81) rfl rfl) dX8_asks_142 ?_
  refine V_iload_n X dX8_asks_145 1 rfl ?_
  refine V_iload_n X dX8_asks_146 2 rfl ?_
  refine V_iast X (o := 81) (n := 100) (hW.at 81 rfl) (by decide) dX8_asks_147 h (fun g147 h => ?_)
  refine V_aload_n X dX8_asks_148 0 rfl ?_
  refine V_get (ci := 7) (N := 4) (C := RX8) (T := TX8) (o := 78) (j := 3) X rfl in_X8 (by decide) (hW.at 78 rfl) (by decide) q337 (fv_1 (i := 82) rfl rfl) dX8_asks_149 ?_
  refine V_iload_n X dX8_asks_152 1 rfl ?_
  refine V_iload X dX8_asks_153 3 rfl ?_
  refine V_iast X (o := 82) (n := 100) (hW.at 82 rfl) (by decide) dX8_asks_155 h (fun g155 h => ?_)
  have hr := Option.some.inj h
  subst hr
  exact V_end_v hX rfl dX8_asks_156
set_option maxHeartbeats 4000000 in
theorem con_xMiles_lays (K : Nat → Nat) (hW : WFK K) (N : Nat) (g : GS) (l1 : Int) (l2 : Int) (r : GS) (h : xMiles_lays N g l1 l2 = some r) : Con yX8_lays cX8_lays 5 none 3 89 K (fun b => [.ref (b + 78), vI l1, vI l2]) g (fun _ => none) r := by
  refine Con.of RX8 (by decide) rfl (fun b => Nat.le_of_ble_eq_true rfl) (fun x sz hX => ?_)
  have X := hX.1
  have LL30 : ∀ (l2 : Int) (n : Nat) (s : (GS × Int)) (e : GS), loopN (fun s => xMiles_lays_b30 N l2 s.1 s.2) n s = some e → (e = r) → V x 5 K 0 0 sz s.1 30 [(0, .ref (xb x + 78)), (2, vI l2), (3, vI s.2)] [] := by
    intro l2 n s e
    refine loop_walk (P := fun s => V x 5 K 0 0 sz s.1 30 [(0, .ref (xb x + 78)), (2, vI l2), (3, vI s.2)] []) (E := fun e => e = r) ?_ n s e
    clear e s n
    rintro ⟨g, l3⟩ q30 h hc30 he30
    replace h : xMiles_lays_b30 N l2 g l3 = some q30 := h
    have LL38 : ∀ (l3 : Int) (n : Nat) (s : (GS × Int)) (e : (GS)), loopN (fun s => xMiles_lays_b38 N l2 l3 s.1 s.2) n s = some e → V x 5 K 0 0 sz e 66 [(0, .ref (xb x + 78)), (2, vI l2), (3, vI l3)] [] → V x 5 K 0 0 sz s.1 38 [(0, .ref (xb x + 78)), (2, vI l2), (3, vI l3), (4, vI s.2)] [] := by
      intro l3 n s e
      refine loop_walk (P := fun s => V x 5 K 0 0 sz s.1 38 [(0, .ref (xb x + 78)), (2, vI l2), (3, vI l3), (4, vI s.2)] []) (E := fun e => V x 5 K 0 0 sz e 66 [(0, .ref (xb x + 78)), (2, vI l2), (3, vI l3)] []) ?_ n s e
      clear e s n
      rintro ⟨g, l4⟩ q38 h hc38 he38
      replace h : xMiles_lays_b38 N l2 l3 g l4 = some q38 := h
      have J57 : ∀ (g : GS) (l4 : Int) (s0 : Int) (s1 : Int), xMiles_lays_j57 N g l2 l3 l4 s0 s1 = some q38 → V x 5 K 0 0 sz g 57 [(0, .ref (xb x + 78)), (2, vI l2), (3, vI l3), (4, vI l4)] [vI s0, vI s1, .ref (xb x + 78)] := by
        intro g l4 s0 s1 h
        unfold xMiles_lays_j57 at h
        obtain ⟨c57, hc57, h⟩ := bind_some_eq h
        refine V_callV (ci := 7) (N := 4) (T := TX8) (As := [vI s1, vI s0]) (rest := []) (s1 := []) (o := 78) X (con_xMiles_asks K hW N g s1 s0 c57 hc57) gwX8_asks_24 hdV_X8_asks (by decide) rfl (by decide) (hW.at 78 rfl) rfl rfl (Nat.le_of_ble_eq_true rfl) ⟨Nat.zero_le _, Nat.zero_le _⟩ dX8_lays_57 rfl rfl ?_
        refine V_iinc X dX8_lays_60 3 rfl (by decide) (L' := [(4, vI (l4 + (-1))), (0, .ref (xb x + 78)), (2, vI l2), (3, vI l3)]) rfl ?_
        refine V_goto (tgt := 38) X dX8_lays_63 (by decide) ?_
        exact V_sub [1, 2, 3, 0] rfl (hc38 _ (Option.some.inj h).symm)
      unfold xMiles_lays_b38 at h
      show V x 5 K 0 0 sz g 38 [(0, .ref (xb x + 78)), (2, vI l2), (3, vI l3), (4, vI l4)] []
      refine V_iload X dX8_lays_38 3 rfl ?_
      refine V_if_lt (tgt := 66) X dX8_lays_40 (by decide) h (fun h => ?_) (fun h => ?_)
      · exact V_sub [0, 1, 2] rfl (he38 _ (Option.some.inj h).symm)
      · refine V_aload_n X dX8_lays_43 0 rfl ?_
        refine V_iload X dX8_lays_44 3 rfl ?_
        refine V_iload_n X dX8_lays_46 2 rfl ?_
        refine V_iload_n X dX8_lays_47 1 rfl ?_
        refine V_irem X dX8_lays_48 h (fun h => ?_)
        refine V_if_ne (tgt := 56) X dX8_lays_49 (by decide) h (fun h => ?_) (fun h => ?_)
        · refine V_iconst X dX8_lays_56 ?_
          exact V_sub [0, 1, 2, 3] rfl (J57 _ _ _ _ h)
        · refine V_iconst X dX8_lays_52 ?_
          refine V_goto (tgt := 57) X dX8_lays_53 (by decide) ?_
          exact V_sub [0, 1, 2, 3] rfl (J57 _ _ _ _ h)
    unfold xMiles_lays_b30 at h
    show V x 5 K 0 0 sz g 30 [(0, .ref (xb x + 78)), (2, vI l2), (3, vI l3)] []
    refine V_iload_n X dX8_lays_30 2 rfl ?_
    refine V_if_le (tgt := 102) X dX8_lays_31 (by decide) h (fun h => ?_) (fun h => ?_)
    · obtain ⟨e1, h, e1q⟩ := outR_some h
      replace h := h.trans (congrArg some (he30 _ e1q))
      have hr := Option.some.inj h
      subst hr
      exact V_end_v hX rfl dX8_lays_102
    · refine V_bipush X dX8_lays_34 (by decide) ?_
      refine V_istore X dX8_lays_36 (by decide) (L' := [(4, vI 99), (0, .ref (xb x + 78)), (2, vI l2), (3, vI l3)]) rfl ?_
      obtain ⟨t2, t2q, h⟩ := bind_some_eq h
      refine V_sub [1, 2, 3, 0] rfl (LL38 l3 N (g, 99) _ t2q ?_)
      refine V_aload_n X dX8_lays_66 0 rfl ?_
      refine V_get (ci := 7) (N := 4) (C := RX8) (T := TX8) (o := 78) (j := 2) X rfl in_X8 (by decide) (hW.at 78 rfl) (by decide) q336 (fv_1 (i := 81) rfl rfl) dX8_lays_67 ?_
      refine V_iconst X dX8_lays_70 ?_
      refine V_aload_n X dX8_lays_71 0 rfl ?_
      refine V_get (ci := 7) (N := 4) (C := RX8) (T := TX8) (o := 78) (j := 0) X rfl in_X8 (by decide) (hW.at 78 rfl) (by decide) q332 (fv_1 (i := 79) rfl rfl) dX8_lays_72 ?_
      refine V_iconst X dX8_lays_75 ?_
      refine V_bipush X dX8_lays_76 (by decide) ?_
      refine V_acopy (s0 := 81) (d0 := 79) (n0 := 100) (n1 := 100) (n := 100) X q1452 (hW.at 81 rfl) (by decide) (hW.at 79 rfl) (by decide) (by decide) (by decide) (by decide) (by decide) dX8_lays_78 ?_
      refine V_aload_n X dX8_lays_81 0 rfl ?_
      refine V_get (ci := 7) (N := 4) (C := RX8) (T := TX8) (o := 78) (j := 3) X rfl in_X8 (by decide) (hW.at 78 rfl) (by decide) q337 (fv_1 (i := 82) rfl rfl) dX8_lays_82 ?_
      refine V_iconst X dX8_lays_85 ?_
      refine V_aload_n X dX8_lays_86 0 rfl ?_
      refine V_get (ci := 7) (N := 4) (C := RX8) (T := TX8) (o := 78) (j := 1) X rfl in_X8 (by decide) (hW.at 78 rfl) (by decide) q334 (fv_1 (i := 80) rfl rfl) dX8_lays_87 ?_
      refine V_iconst X dX8_lays_90 ?_
      refine V_bipush X dX8_lays_91 (by decide) ?_
      refine V_acopy (s0 := 82) (d0 := 80) (n0 := 100) (n1 := 100) (n := 100) X q1452 (hW.at 82 rfl) (by decide) (hW.at 80 rfl) (by decide) (by decide) (by decide) (by decide) (by decide) dX8_lays_93 ?_
      refine V_iinc X dX8_lays_96 2 rfl (by decide) (L' := [(3, vI (l3 + (-1))), (0, .ref (xb x + 78)), (2, vI l2)]) rfl ?_
      refine V_goto (tgt := 30) X dX8_lays_99 (by decide) ?_
      exact V_sub [1, 2, 0] rfl (hc30 _ (Option.some.inj h).symm)
  have LL2 : ∀ (l1 : Int) (l2 : Int) (n : Nat) (s : (GS × Int)) (e : (GS)), loopN (fun s => xMiles_lays_b2 N l1 l2 s.1 s.2) n s = some e → V x 5 K 0 0 sz e 28 [(0, .ref (xb x + 78)), (1, vI l1), (2, vI l2)] [] → V x 5 K 0 0 sz s.1 2 [(0, .ref (xb x + 78)), (1, vI l1), (2, vI l2), (3, vI s.2)] [] := by
    intro l1 l2 n s e
    refine loop_walk (P := fun s => V x 5 K 0 0 sz s.1 2 [(0, .ref (xb x + 78)), (1, vI l1), (2, vI l2), (3, vI s.2)] []) (E := fun e => V x 5 K 0 0 sz e 28 [(0, .ref (xb x + 78)), (1, vI l1), (2, vI l2)] []) ?_ n s e
    clear e s n
    rintro ⟨g, l3⟩ q2 h hc2 he2
    replace h : xMiles_lays_b2 N l1 l2 g l3 = some q2 := h
    unfold xMiles_lays_b2 at h
    show V x 5 K 0 0 sz g 2 [(0, .ref (xb x + 78)), (1, vI l1), (2, vI l2), (3, vI l3)] []
    refine V_iload_n X dX8_lays_2 3 rfl ?_
    refine V_bipush X dX8_lays_3 (by decide) ?_
    refine V_icmp_gt (tgt := 28) X dX8_lays_5 (by decide) h (fun h => ?_) (fun h => ?_)
    · exact V_sub [0, 1, 2] rfl (he2 _ (Option.some.inj h).symm)
    · refine V_aload_n X dX8_lays_8 0 rfl ?_
      refine V_get (ci := 7) (N := 4) (C := RX8) (T := TX8) (o := 78) (j := 0) X rfl in_X8 (by decide) (hW.at 78 rfl) (by decide) q332 (fv_1 (i := 79) rfl rfl) dX8_lays_9 ?_
      refine V_iload_n X dX8_lays_12 3 rfl ?_
      refine V_iconst X dX8_lays_13 ?_
      refine V_iast X (o := 79) (n := 100) (hW.at 79 rfl) (by decide) dX8_lays_14 h (fun g14 h => ?_)
      refine V_aload_n X dX8_lays_15 0 rfl ?_
      refine V_get (ci := 7) (N := 4) (C := RX8) (T := TX8) (o := 78) (j := 1) X rfl in_X8 (by decide) (hW.at 78 rfl) (by decide) q334 (fv_1 (i := 80) rfl rfl) dX8_lays_16 ?_
      refine V_iload_n X dX8_lays_19 3 rfl ?_
      refine V_iconst X dX8_lays_20 ?_
      refine V_iast X (o := 80) (n := 100) (hW.at 80 rfl) (by decide) dX8_lays_21 h (fun g21 h => ?_)
      refine V_iinc X dX8_lays_22 3 rfl (by decide) (L' := [(3, vI (l3 + 1)), (0, .ref (xb x + 78)), (1, vI l1), (2, vI l2)]) rfl ?_
      refine V_goto (tgt := 2) X dX8_lays_25 (by decide) ?_
      exact V_sub [1, 2, 3, 0] rfl (hc2 _ (Option.some.inj h).symm)
  unfold xMiles_lays at h
  show V x 5 K 0 0 sz g 0 [(0, .ref (xb x + 78)), (1, vI l1), (2, vI l2)] []
  refine V_iconst X dX8_lays_0 ?_
  refine V_istore_n X dX8_lays_1 (by decide) (L' := [(3, vI 0), (0, .ref (xb x + 78)), (1, vI l1), (2, vI l2)]) rfl ?_
  obtain ⟨t3, t3q, h⟩ := bind_some_eq h
  refine V_sub [1, 2, 3, 0] rfl (LL2 l1 l2 N (g, 0) _ t3q ?_)
  refine V_iload_n X dX8_lays_28 1 rfl ?_
  refine V_istore_n X dX8_lays_29 (by decide) (L' := [(3, vI l1), (0, .ref (xb x + 78)), (1, vI l1), (2, vI l2)]) rfl ?_
  exact V_sub [1, 3, 0] rfl (LL30 l2 N (t3, l1) _ h rfl)
set_option maxHeartbeats 4000000 in
theorem con_x_weight (K : Nat → Nat) (hW : WFK K) (N : Nat) (g : GS) (l1 : Int) (l2 : Int) (l3 : Int) (r : Int) (h : x_weight N K g l1 l2 l3 = some r) : Con yX1_weight cX1_weight 7 (some .int) 1 12 K (fun b => [.ref (b + 0), vI l1, vI l2, vI l3]) g (fun _ => some (vI r)) g := by
  refine Con.of RX1 (by decide) rfl (fun b => Nat.le_of_ble_eq_true rfl) (fun x sz hX => ?_)
  have X := hX.1
  have LL14 : ∀ (l1 : Int) (l2 : Int) (l3 : Int) (n : Nat) (s : (Int × Int)) (e : Int), loopN (fun s => x_weight_b14 N K g l1 l2 l3 s.1 s.2) n s = some e → (e = r) → V x 7 K 0 0 sz g 14 [(0, .ref (xb x + 0)), (1, vI l1), (2, vI l2), (3, vI l3), (4, vI s.1), (5, vI s.2)] [] := by
    intro l1 l2 l3 n s e
    refine loop_walk (P := fun s => V x 7 K 0 0 sz g 14 [(0, .ref (xb x + 0)), (1, vI l1), (2, vI l2), (3, vI l3), (4, vI s.1), (5, vI s.2)] []) (E := fun e => e = r) ?_ n s e
    clear e s n
    rintro ⟨l4, l5⟩ q14 h hc14 he14
    replace h : x_weight_b14 N K g l1 l2 l3 l4 l5 = some q14 := h
    have J83 : ∀ (l5 : Int) (s0 : Int) (s1 : Int), x_weight_j83 N K g l1 l2 l3 l5 s0 s1 = some q14 → V x 7 K 0 0 sz g 83 [(0, .ref (xb x + 0)), (1, vI l1), (2, vI l2), (3, vI l3), (5, vI l5)] [vI s0, vI s1] := by
      intro l5 s0 s1 h
      unfold x_weight_j83 at h
      refine V_imul X dX1_weight_83 ?_
      refine V_istore X dX1_weight_84 (by decide) (L' := [(4, vI (s1 * s0)), (0, .ref (xb x + 0)), (1, vI l1), (2, vI l2), (3, vI l3), (5, vI l5)]) rfl ?_
      refine V_iinc X dX1_weight_86 5 rfl (by decide) (L' := [(5, vI (l5 + 1)), (4, vI (s1 * s0)), (0, .ref (xb x + 0)), (1, vI l1), (2, vI l2), (3, vI l3)]) rfl ?_
      refine V_goto (tgt := 14) X dX1_weight_89 (by decide) ?_
      exact V_sub [2, 3, 4, 5, 1, 0] rfl (hc14 _ (Option.some.inj h).symm)
    have J37 : ∀ (l4 : Int) (l5 : Int) (s0 : Int), x_weight_j37 N K g l1 l2 l3 l4 l5 s0 = some q14 → V x 7 K 0 0 sz g 37 [(0, .ref (xb x + 0)), (1, vI l1), (2, vI l2), (3, vI l3), (4, vI l4), (5, vI l5)] [vI s0] := by
      intro l4 l5 s0 h
      unfold x_weight_j37 at h
      refine V_istore X dX1_weight_37 (by decide) (L' := [(6, vI s0), (0, .ref (xb x + 0)), (1, vI l1), (2, vI l2), (3, vI l3), (4, vI l4), (5, vI l5)]) rfl ?_
      refine V_iload X dX1_weight_39 0 rfl ?_
      refine V_iconst X dX1_weight_41 ?_
      refine V_icmp_eq (tgt := 86) X dX1_weight_42 (by decide) h (fun h => ?_) (fun h => ?_)
      · refine V_iinc X dX1_weight_86 6 rfl (by decide) (L' := [(5, vI (l5 + 1)), (6, vI s0), (0, .ref (xb x + 0)), (1, vI l1), (2, vI l2), (3, vI l3), (4, vI l4)]) rfl ?_
        refine V_goto (tgt := 14) X dX1_weight_89 (by decide) ?_
        exact V_sub [2, 3, 4, 5, 6, 0] rfl (hc14 _ (Option.some.inj h).symm)
      · refine V_iload X dX1_weight_45 5 rfl ?_
        refine V_iload X dX1_weight_47 0 rfl ?_
        refine V_iconst X dX1_weight_49 ?_
        refine V_icmp_ne (tgt := 68) X dX1_weight_50 (by decide) h (fun h => ?_) (fun h => ?_)
        · refine V_bipush X dX1_weight_68 (by decide) ?_
          refine V_aload_n X dX1_weight_70 1 rfl ?_
          obtain ⟨i71, hvi71, hki71, h⟩ := rdR_some h
          refine V_get (ci := 0) (N := 18) (C := RX1) (T := TX1) (o := 0) (j := 12) X rfl in_X1 (by decide) (hW.at 0 rfl) (by decide) q489 (fv_3i rfl hvi71) dX1_weight_71 ?_
          refine V_getN (ci := 8) (N := 24) (C := RX9) (T := TX9) (o := i71) (j := 12) X rfl in_X9 (by decide) hki71 (by decide) q394 (fv_1 (i := (i71 + 13)) rfl rfl) dX1_weight_74 ?_
          refine V_iload_n X dX1_weight_77 2 rfl ?_
          obtain ⟨i78, hni78, hvi78, hki78, h⟩ := rdQ_some h
          refine V_aald (o := (i71 + 13)) (t := 7) (n := 4) X (by decide) (by decide) (hW.blk (by decide) hki71 13 (by decide) rfl) (by decide) hni78 hvi78 dX1_weight_78 ?_
          refine V_iload X dX1_weight_79 6 rfl ?_
          refine V_iald X (o := i78) (n := 3) hki78 (by decide) dX1_weight_81 h (fun v81 h => ?_)
          refine V_isub X dX1_weight_82 ?_
          exact V_sub [1, 2, 3, 4, 6] rfl (J83 _ _ _ h)
        · refine V_aload_n X dX1_weight_53 1 rfl ?_
          obtain ⟨i54, hvi54, hki54, h⟩ := rdR_some h
          refine V_get (ci := 0) (N := 18) (C := RX1) (T := TX1) (o := 0) (j := 12) X rfl in_X1 (by decide) (hW.at 0 rfl) (by decide) q489 (fv_3i rfl hvi54) dX1_weight_54 ?_
          refine V_getN (ci := 8) (N := 24) (C := RX9) (T := TX9) (o := i54) (j := 12) X rfl in_X9 (by decide) hki54 (by decide) q394 (fv_1 (i := (i54 + 13)) rfl rfl) dX1_weight_57 ?_
          refine V_iload_n X dX1_weight_60 2 rfl ?_
          obtain ⟨i61, hni61, hvi61, hki61, h⟩ := rdQ_some h
          refine V_aald (o := (i54 + 13)) (t := 7) (n := 4) X (by decide) (by decide) (hW.blk (by decide) hki54 13 (by decide) rfl) (by decide) hni61 hvi61 dX1_weight_61 ?_
          refine V_iload X dX1_weight_62 6 rfl ?_
          refine V_iald X (o := i61) (n := 3) hki61 (by decide) dX1_weight_64 h (fun v64 h => ?_)
          refine V_goto (tgt := 83) X dX1_weight_65 (by decide) ?_
          exact V_sub [1, 2, 3, 4, 6] rfl (J83 _ _ _ h)
    unfold x_weight_b14 at h
    show V x 7 K 0 0 sz g 14 [(0, .ref (xb x + 0)), (1, vI l1), (2, vI l2), (3, vI l3), (4, vI l4), (5, vI l5)] []
    refine V_iload X dX1_weight_14 5 rfl ?_
    refine V_iconst X dX1_weight_16 ?_
    refine V_icmp_ge (tgt := 92) X dX1_weight_17 (by decide) h (fun h => ?_) (fun h => ?_)
    · obtain ⟨e1, h, e1q⟩ := outR_some h
      replace h := h.trans (congrArg some (he14 _ e1q))
      refine V_iload X dX1_weight_92 4 rfl ?_
      have hr := Option.some.inj h
      subst hr
      exact V_end_i hX rfl dX1_weight_94
    · refine V_iload X dX1_weight_20 5 rfl ?_
      refine V_iload_n X dX1_weight_22 2 rfl ?_
      refine V_icmp_ne (tgt := 30) X dX1_weight_23 (by decide) h (fun h => ?_) (fun h => ?_)
      · refine V_aload_n X dX1_weight_30 0 rfl ?_
        refine V_get (ci := 0) (N := 18) (C := RX1) (T := TX1) (o := 0) (j := 7) X rfl in_X1 (by decide) (hW.at 0 rfl) (by decide) q484 (fv_1 (i := 13) rfl rfl) dX1_weight_31 ?_
        refine V_iload X dX1_weight_34 5 rfl ?_
        refine V_iald X (o := 13) (n := 3) (hW.at 13 rfl) (by decide) dX1_weight_36 h (fun v36 h => ?_)
        exact V_sub [0, 1, 2, 3, 4, 5] rfl (J37 _ _ _ h)
      · refine V_iload_n X dX1_weight_26 3 rfl ?_
        refine V_goto (tgt := 37) X dX1_weight_27 (by decide) ?_
        exact V_sub [0, 1, 2, 3, 4, 5] rfl (J37 _ _ _ h)
  unfold x_weight at h
  show V x 7 K 0 0 sz g 0 [(0, .ref (xb x + 0)), (1, vI l1), (2, vI l2), (3, vI l3)] []
  refine V_aload_n X dX1_weight_0 0 rfl ?_
  obtain ⟨i1, hvi1, hki1, h⟩ := rdR_some h
  refine V_get (ci := 0) (N := 18) (C := RX1) (T := TX1) (o := 0) (j := 12) X rfl in_X1 (by decide) (hW.at 0 rfl) (by decide) q489 (fv_3i rfl hvi1) dX1_weight_1 ?_
  refine V_getN (ci := 8) (N := 24) (C := RX9) (T := TX9) (o := i1) (j := 11) X rfl in_X9 (by decide) hki1 (by decide) q391 (fv_1 (i := (i1 + 12)) rfl rfl) dX1_weight_4 ?_
  refine V_iload_n X dX1_weight_7 1 rfl ?_
  refine V_iald X (o := (i1 + 12)) (n := 4) (hW.blk (by decide) hki1 12 (by decide) rfl) (by decide) dX1_weight_8 h (fun v8 h => ?_)
  refine V_istore X dX1_weight_9 (by decide) (L' := [(4, vI v8), (0, .ref (xb x + 0)), (1, vI l1), (2, vI l2), (3, vI l3)]) rfl ?_
  refine V_iconst X dX1_weight_11 ?_
  refine V_istore X dX1_weight_12 (by decide) (L' := [(5, vI 0), (4, vI v8), (0, .ref (xb x + 0)), (1, vI l1), (2, vI l2), (3, vI l3)]) rfl ?_
  exact V_sub [2, 3, 4, 5, 1, 0] rfl (LL14 l1 l2 l3 N (v8, 0) _ h rfl)
set_option maxHeartbeats 4000000 in
theorem con_x_likeliest (K : Nat → Nat) (hW : WFK K) (N : Nat) (g : GS) (r : Int) (h : x_likeliest N K g = some r) : Con yX1_likeliest cX1_likeliest 3 (some .int) 2 38 K (fun b => [.ref (b + 0)]) g (fun _ => some (vI r)) g := by
  refine Con.of RX1 (by decide) rfl (fun b => Nat.le_of_ble_eq_true rfl) (fun x sz hX => ?_)
  have X := hX.1
  have LL4 : ∀  (n : Nat) (s : (Int × Int)) (e : Int), loopN (fun s => x_likeliest_b4 N K g s.1 s.2) n s = some e → (e = r) → V x 3 K 0 0 sz g 4 [(0, .ref (xb x + 0)), (1, vI s.1), (2, vI s.2)] [] := by
    intro  n s e
    refine loop_walk (P := fun s => V x 3 K 0 0 sz g 4 [(0, .ref (xb x + 0)), (1, vI s.1), (2, vI s.2)] []) (E := fun e => e = r) ?_ n s e
    clear e s n
    rintro ⟨l1, l2⟩ q4 h hc4 he4
    replace h : x_likeliest_b4 N K g l1 l2 = some q4 := h
    have J38 : ∀ (l1 : Int) (l2 : Int) (s0 : Int) (s1 : Int), x_likeliest_j38 N K g l1 l2 s0 s1 = some q4 → V x 3 K 0 0 sz g 38 [(0, .ref (xb x + 0)), (1, vI l1), (2, vI l2)] [vI s0, vI s1] := by
      intro l1 l2 s0 s1 h
      unfold x_likeliest_j38 at h
      refine V_icmp_le (tgt := 43) X dX1_likeliest_38 (by decide) h (fun h => ?_) (fun h => ?_)
      · refine V_iinc X dX1_likeliest_43 2 rfl (by decide) (L' := [(2, vI (l2 + 1)), (0, .ref (xb x + 0)), (1, vI l1)]) rfl ?_
        refine V_goto (tgt := 4) X dX1_likeliest_46 (by decide) ?_
        exact V_sub [1, 2, 0] rfl (hc4 _ (Option.some.inj h).symm)
      · refine V_iload_n X dX1_likeliest_41 2 rfl ?_
        refine V_istore_n X dX1_likeliest_42 (by decide) (L' := [(1, vI l2), (0, .ref (xb x + 0)), (2, vI l2)]) rfl ?_
        refine V_iinc X dX1_likeliest_43 2 rfl (by decide) (L' := [(2, vI (l2 + 1)), (1, vI l2), (0, .ref (xb x + 0))]) rfl ?_
        refine V_goto (tgt := 4) X dX1_likeliest_46 (by decide) ?_
        exact V_sub [2, 1, 0] rfl (hc4 _ (Option.some.inj h).symm)
    unfold x_likeliest_b4 at h
    show V x 3 K 0 0 sz g 4 [(0, .ref (xb x + 0)), (1, vI l1), (2, vI l2)] []
    refine V_iload_n X dX1_likeliest_4 2 rfl ?_
    refine V_aload_n X dX1_likeliest_5 0 rfl ?_
    obtain ⟨i6, hvi6, hki6, h⟩ := rdR_some h
    refine V_get (ci := 0) (N := 18) (C := RX1) (T := TX1) (o := 0) (j := 12) X rfl in_X1 (by decide) (hW.at 0 rfl) (by decide) q489 (fv_3i rfl hvi6) dX1_likeliest_6 ?_
    refine V_getN (ci := 8) (N := 24) (C := RX9) (T := TX9) (o := i6) (j := 18) X rfl in_X9 (by decide) hki6 (by decide) q413 (fv_0 rfl) dX1_likeliest_9 ?_
    refine V_icmp_ge (tgt := 49) X dX1_likeliest_12 (by decide) h (fun h => ?_) (fun h => ?_)
    · obtain ⟨e1, h, e1q⟩ := outR_some h
      replace h := h.trans (congrArg some (he4 _ e1q))
      refine V_iload_n X dX1_likeliest_49 1 rfl ?_
      have hr := Option.some.inj h
      subst hr
      exact V_end_i hX rfl dX1_likeliest_50
    · refine V_aload_n X dX1_likeliest_15 0 rfl ?_
      refine V_iload_n X dX1_likeliest_16 2 rfl ?_
      refine V_iconst X dX1_likeliest_17 ?_
      refine V_iconst X dX1_likeliest_18 ?_
      obtain ⟨c19, hc19, h⟩ := bind_some_eq h
      refine V_callV (ci := 0) (N := 18) (T := TX1) (As := [vI l2, vI (-1), vI (-1)]) (rest := []) (s1 := [vI c19]) (o := 0) X (con_x_weight K hW N g l2 (-1) (-1) c19 hc19) gwX1_weight_407 hdV_X1_weight (by decide) rfl (by decide) (hW.at 0 rfl) rfl rfl (Nat.le_of_ble_eq_true rfl) ⟨Nat.zero_le _, Nat.zero_le _⟩ dX1_likeliest_19 rfl rfl ?_
      refine V_iload_n X dX1_likeliest_22 1 rfl ?_
      refine V_iconst X dX1_likeliest_23 ?_
      refine V_icmp_ne (tgt := 31) X dX1_likeliest_24 (by decide) h (fun h => ?_) (fun h => ?_)
      · refine V_aload_n X dX1_likeliest_31 0 rfl ?_
        refine V_iload_n X dX1_likeliest_32 1 rfl ?_
        refine V_iconst X dX1_likeliest_33 ?_
        refine V_iconst X dX1_likeliest_34 ?_
        obtain ⟨c35, hc35, h⟩ := bind_some_eq h
        refine V_callV (ci := 0) (N := 18) (T := TX1) (As := [vI l1, vI (-1), vI (-1)]) (rest := [vI c19]) (s1 := [vI c35, vI c19]) (o := 0) X (con_x_weight K hW N g l1 (-1) (-1) c35 hc35) gwX1_weight_407 hdV_X1_weight (by decide) rfl (by decide) (hW.at 0 rfl) rfl rfl (Nat.le_of_ble_eq_true rfl) ⟨Nat.zero_le _, Nat.zero_le _⟩ dX1_likeliest_35 rfl rfl ?_
        exact V_sub [0, 1, 2] rfl (J38 _ _ _ _ h)
      · refine V_iconst X dX1_likeliest_27 ?_
        refine V_goto (tgt := 38) X dX1_likeliest_28 (by decide) ?_
        exact V_sub [0, 1, 2] rfl (J38 _ _ _ _ h)
  unfold x_likeliest at h
  show V x 3 K 0 0 sz g 0 [(0, .ref (xb x + 0))] []
  refine V_iconst X dX1_likeliest_0 ?_
  refine V_istore_n X dX1_likeliest_1 (by decide) (L' := [(1, vI (-1)), (0, .ref (xb x + 0))]) rfl ?_
  refine V_iconst X dX1_likeliest_2 ?_
  refine V_istore_n X dX1_likeliest_3 (by decide) (L' := [(2, vI 0), (1, vI (-1)), (0, .ref (xb x + 0))]) rfl ?_
  exact V_sub [2, 1, 0] rfl (LL4 N ((-1), 0) _ h rfl)
set_option maxHeartbeats 4000000 in
theorem con_x_greatest (K : Nat → Nat) (hW : WFK K) (N : Nat) (g : GS) (l1 : Int) (l2 : Int) (r : Int) (h : x_greatest N K g l1 l2 = some r) : Con yX1_greatest cX1_greatest 5 (some .int) 2 60 K (fun b => [.ref (b + 0), vI l1, vI l2]) g (fun _ => some (vI r)) g := by
  refine Con.of RX1 (by decide) rfl (fun b => Nat.le_of_ble_eq_true rfl) (fun x sz hX => ?_)
  have X := hX.1
  have LL5 : ∀ (l1 : Int) (l2 : Int) (n : Nat) (s : (Int × Int)) (e : Int), loopN (fun s => x_greatest_b5 N K g l1 l2 s.1 s.2) n s = some e → (e = r) → V x 5 K 0 0 sz g 5 [(0, .ref (xb x + 0)), (1, vI l1), (2, vI l2), (3, vI s.1), (4, vI s.2)] [] := by
    intro l1 l2 n s e
    refine loop_walk (P := fun s => V x 5 K 0 0 sz g 5 [(0, .ref (xb x + 0)), (1, vI l1), (2, vI l2), (3, vI s.1), (4, vI s.2)] []) (E := fun e => e = r) ?_ n s e
    clear e s n
    rintro ⟨l3, l4⟩ q5 h hc5 he5
    replace h : x_greatest_b5 N K g l1 l2 l3 l4 = some q5 := h
    unfold x_greatest_b5 at h
    show V x 5 K 0 0 sz g 5 [(0, .ref (xb x + 0)), (1, vI l1), (2, vI l2), (3, vI l3), (4, vI l4)] []
    refine V_iload X dX1_greatest_5 4 rfl ?_
    refine V_aload_n X dX1_greatest_7 0 rfl ?_
    obtain ⟨i8, hvi8, hki8, h⟩ := rdR_some h
    refine V_get (ci := 0) (N := 18) (C := RX1) (T := TX1) (o := 0) (j := 12) X rfl in_X1 (by decide) (hW.at 0 rfl) (by decide) q489 (fv_3i rfl hvi8) dX1_greatest_8 ?_
    refine V_getN (ci := 8) (N := 24) (C := RX9) (T := TX9) (o := i8) (j := 18) X rfl in_X9 (by decide) hki8 (by decide) q413 (fv_0 rfl) dX1_greatest_11 ?_
    refine V_icmp_ge (tgt := 36) X dX1_greatest_14 (by decide) h (fun h => ?_) (fun h => ?_)
    · obtain ⟨e1, h, e1q⟩ := outR_some h
      replace h := h.trans (congrArg some (he5 _ e1q))
      refine V_iload_n X dX1_greatest_36 3 rfl ?_
      have hr := Option.some.inj h
      subst hr
      exact V_end_i hX rfl dX1_greatest_37
    · refine V_iload_n X dX1_greatest_17 3 rfl ?_
      refine V_aload_n X dX1_greatest_18 0 rfl ?_
      refine V_iload X dX1_greatest_19 4 rfl ?_
      refine V_iload_n X dX1_greatest_21 1 rfl ?_
      refine V_iload_n X dX1_greatest_22 2 rfl ?_
      obtain ⟨c23, hc23, h⟩ := bind_some_eq h
      refine V_callV (ci := 0) (N := 18) (T := TX1) (As := [vI l4, vI l1, vI l2]) (rest := [vI l3]) (s1 := [vI c23, vI l3]) (o := 0) X (con_x_weight K hW N g l4 l1 l2 c23 hc23) gwX1_weight_407 hdV_X1_weight (by decide) rfl (by decide) (hW.at 0 rfl) rfl rfl (Nat.le_of_ble_eq_true rfl) ⟨Nat.zero_le _, Nat.zero_le _⟩ dX1_greatest_23 rfl rfl ?_
      refine V_max X q678 (by decide) (Nat.le_of_ble_eq_true rfl) ⟨Nat.zero_le _, Nat.zero_le _⟩ dX1_greatest_26 ?_
      refine V_istore_n X dX1_greatest_29 (by decide) (L' := [(3, vI (imax l3 c23)), (0, .ref (xb x + 0)), (1, vI l1), (2, vI l2), (4, vI l4)]) rfl ?_
      refine V_iinc X dX1_greatest_30 4 rfl (by decide) (L' := [(4, vI (l4 + 1)), (3, vI (imax l3 c23)), (0, .ref (xb x + 0)), (1, vI l1), (2, vI l2)]) rfl ?_
      refine V_goto (tgt := 5) X dX1_greatest_33 (by decide) ?_
      exact V_sub [2, 3, 4, 1, 0] rfl (hc5 _ (Option.some.inj h).symm)
  unfold x_greatest at h
  show V x 5 K 0 0 sz g 0 [(0, .ref (xb x + 0)), (1, vI l1), (2, vI l2)] []
  refine V_iconst X dX1_greatest_0 ?_
  refine V_istore_n X dX1_greatest_1 (by decide) (L' := [(3, vI 0), (0, .ref (xb x + 0)), (1, vI l1), (2, vI l2)]) rfl ?_
  refine V_iconst X dX1_greatest_2 ?_
  refine V_istore X dX1_greatest_3 (by decide) (L' := [(4, vI 0), (3, vI 0), (0, .ref (xb x + 0)), (1, vI l1), (2, vI l2)]) rfl ?_
  exact V_sub [2, 3, 4, 1, 0] rfl (LL5 l1 l2 N (0, 0) _ h rfl)
set_option maxHeartbeats 4000000 in
theorem con_x_ask (K : Nat → Nat) (hW : WFK K) (N : Nat) (g : GS) (r : Int) (h : x_ask N K g = some r) : Con yX1_ask cX1_ask 5 (some .int) 3 84 K (fun b => [.ref (b + 0)]) g (fun _ => some (vI r)) g := by
  refine Con.of RX1 (by decide) rfl (fun b => Nat.le_of_ble_eq_true rfl) (fun x sz hX => ?_)
  have X := hX.1
  have LL6 : ∀  (n : Nat) (s : (Int × Int × Int)) (e : Int), loopN (fun s => x_ask_b6 N K g s.1 s.2.1 s.2.2) n s = some e → (e = r) → V x 5 K 0 0 sz g 6 [(0, .ref (xb x + 0)), (1, vI s.1), (2, vI s.2.1), (3, vI s.2.2)] [] := by
    intro  n s e
    refine loop_walk (P := fun s => V x 5 K 0 0 sz g 6 [(0, .ref (xb x + 0)), (1, vI s.1), (2, vI s.2.1), (3, vI s.2.2)] []) (E := fun e => e = r) ?_ n s e
    clear e s n
    rintro ⟨l1, l2, l3⟩ q6 h hc6 he6
    replace h : x_ask_b6 N K g l1 l2 l3 = some q6 := h
    have J53 : ∀ (l3 : Int) (l4 : Int), x_ask_j53 N K g l3 l4 = some q6 → V x 5 K 0 0 sz g 53 [(0, .ref (xb x + 0)), (3, vI l3), (4, vI l4)] [] := by
      intro l3 l4 h
      unfold x_ask_j53 at h
      refine V_iload_n X dX1_ask_53 1 rfl ?_
      refine V_istore_n X dX1_ask_54 (by decide) (L' := [(1, vI l3), (0, .ref (xb x + 0)), (3, vI l3), (4, vI l4)]) rfl ?_
      refine V_iload X dX1_ask_55 3 rfl ?_
      refine V_istore_n X dX1_ask_57 (by decide) (L' := [(2, vI l4), (1, vI l3), (0, .ref (xb x + 0)), (3, vI l3), (4, vI l4)]) rfl ?_
      refine V_iinc X dX1_ask_58 3 rfl (by decide) (L' := [(3, vI (l3 + 1)), (2, vI l4), (1, vI l3), (0, .ref (xb x + 0)), (4, vI l4)]) rfl ?_
      refine V_goto (tgt := 6) X dX1_ask_61 (by decide) ?_
      exact V_sub [3, 2, 1, 0] rfl (hc6 _ (Option.some.inj h).symm)
    unfold x_ask_b6 at h
    show V x 5 K 0 0 sz g 6 [(0, .ref (xb x + 0)), (1, vI l1), (2, vI l2), (3, vI l3)] []
    refine V_iload_n X dX1_ask_6 3 rfl ?_
    refine V_iconst X dX1_ask_7 ?_
    refine V_icmp_ge (tgt := 64) X dX1_ask_8 (by decide) h (fun h => ?_) (fun h => ?_)
    · obtain ⟨e1, h, e1q⟩ := outR_some h
      replace h := h.trans (congrArg some (he6 _ e1q))
      refine V_iload_n X dX1_ask_64 1 rfl ?_
      have hr := Option.some.inj h
      subst hr
      exact V_end_i hX rfl dX1_ask_65
    · refine V_aload_n X dX1_ask_11 0 rfl ?_
      refine V_get (ci := 0) (N := 18) (C := RX1) (T := TX1) (o := 0) (j := 7) X rfl in_X1 (by decide) (hW.at 0 rfl) (by decide) q484 (fv_1 (i := 13) rfl rfl) dX1_ask_12 ?_
      refine V_iload_n X dX1_ask_15 3 rfl ?_
      refine V_iald X (o := 13) (n := 3) (hW.at 13 rfl) (by decide) dX1_ask_16 h (fun v16 h => ?_)
      refine V_iconst X dX1_ask_17 ?_
      refine V_icmp_eq (tgt := 24) X dX1_ask_18 (by decide) h (fun h => ?_) (fun h => ?_)
      · refine V_aload_n X dX1_ask_24 0 rfl ?_
        refine V_iload_n X dX1_ask_25 3 rfl ?_
        refine V_iconst X dX1_ask_26 ?_
        obtain ⟨c27, hc27, h⟩ := bind_some_eq h
        refine V_callV (ci := 0) (N := 18) (T := TX1) (As := [vI l3, vI 0]) (rest := []) (s1 := [vI c27]) (o := 0) X (con_x_greatest K hW N g l3 0 c27 hc27) gwX1_greatest_410 hdV_X1_greatest (by decide) rfl (by decide) (hW.at 0 rfl) rfl rfl (Nat.le_of_ble_eq_true rfl) ⟨Nat.zero_le _, Nat.zero_le _⟩ dX1_ask_27 rfl rfl ?_
        refine V_aload_n X dX1_ask_30 0 rfl ?_
        refine V_iload_n X dX1_ask_31 3 rfl ?_
        refine V_iconst X dX1_ask_32 ?_
        obtain ⟨c33, hc33, h⟩ := bind_some_eq h
        refine V_callV (ci := 0) (N := 18) (T := TX1) (As := [vI l3, vI 1]) (rest := [vI c27]) (s1 := [vI c33, vI c27]) (o := 0) X (con_x_greatest K hW N g l3 1 c33 hc33) gwX1_greatest_410 hdV_X1_greatest (by decide) rfl (by decide) (hW.at 0 rfl) rfl rfl (Nat.le_of_ble_eq_true rfl) ⟨Nat.zero_le _, Nat.zero_le _⟩ dX1_ask_33 rfl rfl ?_
        refine V_iadd X dX1_ask_36 ?_
        refine V_istore X dX1_ask_37 (by decide) (L' := [(4, vI (c27 + c33)), (0, .ref (xb x + 0)), (1, vI l1), (2, vI l2), (3, vI l3)]) rfl ?_
        refine V_iload_n X dX1_ask_39 2 rfl ?_
        refine V_iconst X dX1_ask_40 ?_
        refine V_icmp_eq (tgt := 53) X dX1_ask_41 (by decide) h (fun h => ?_) (fun h => ?_)
        · exact V_sub [1, 4, 0] rfl (J53 _ _ h)
        · refine V_iload X dX1_ask_44 0 rfl ?_
          refine V_iload_n X dX1_ask_46 3 rfl ?_
          refine V_icmp_gt (tgt := 53) X dX1_ask_47 (by decide) h (fun h => ?_) (fun h => ?_)
          · exact V_sub [1, 4, 0] rfl (J53 _ _ h)
          · refine V_goto (tgt := 58) X dX1_ask_50 (by decide) ?_
            refine V_iinc X dX1_ask_58 4 rfl (by decide) (L' := [(3, vI (l3 + 1)), (4, vI (c27 + c33)), (0, .ref (xb x + 0)), (1, vI l1), (2, vI l2)]) rfl ?_
            refine V_goto (tgt := 6) X dX1_ask_61 (by decide) ?_
            exact V_sub [2, 3, 4, 0] rfl (hc6 _ (Option.some.inj h).symm)
      · refine V_goto (tgt := 58) X dX1_ask_21 (by decide) ?_
        refine V_iinc X dX1_ask_58 3 rfl (by decide) (L' := [(3, vI (l3 + 1)), (0, .ref (xb x + 0)), (1, vI l1), (2, vI l2)]) rfl ?_
        refine V_goto (tgt := 6) X dX1_ask_61 (by decide) ?_
        exact V_sub [1, 2, 3, 0] rfl (hc6 _ (Option.some.inj h).symm)
  unfold x_ask at h
  show V x 5 K 0 0 sz g 0 [(0, .ref (xb x + 0))] []
  refine V_iconst X dX1_ask_0 ?_
  refine V_istore_n X dX1_ask_1 (by decide) (L' := [(1, vI (-1)), (0, .ref (xb x + 0))]) rfl ?_
  refine V_iconst X dX1_ask_2 ?_
  refine V_istore_n X dX1_ask_3 (by decide) (L' := [(2, vI 0), (1, vI (-1)), (0, .ref (xb x + 0))]) rfl ?_
  refine V_iconst X dX1_ask_4 ?_
  refine V_istore_n X dX1_ask_5 (by decide) (L' := [(3, vI 0), (2, vI 0), (1, vI (-1)), (0, .ref (xb x + 0))]) rfl ?_
  exact V_sub [3, 2, 1, 0] rfl (LL6 N ((-1), 0, 0) _ h rfl)
set_option maxHeartbeats 4000000 in
theorem con_xWatch_losing (K : Nat → Nat) (hW : WFK K) (o : Nat) (hK0 : K o = 4) (g : GS) (l1 : Int) (r : GS) (h : xWatch_losing K o g l1 = some r) : Con yX4_losing cX4_losing 2 (some (.object "RainWheel$Watch")) 1 12 K (fun b => [.ref (b + o), vI l1]) g (fun b => some (.ref (b + o))) r := by
  refine Con.of RX4 (by decide) rfl (fun b => Nat.le_of_ble_eq_true rfl) (fun x sz hX => ?_)
  have X := hX.1
  unfold xWatch_losing at h
  show V x 2 K 0 0 sz g 0 [(0, .ref (xb x + o)), (1, vI l1)] []
  refine V_aload_n X dX4_losing_0 0 rfl ?_
  refine V_iload_n X dX4_losing_1 1 rfl ?_
  refine V_put (ty := .int) (ci := 3) (N := 15) (C := RX4) (T := TX4) (o := o) (j := 11) (a := l1) X rfl in_X4 tyX4 tyX4_ok nmX4 (by decide) hK0 (by decide) rfl pfd_I rfl rfl q235 (by rw [fv_0 rfl, gI_sI, if_pos ⟨rfl, rfl⟩]) dX4_losing_2 ?_
  refine V_aload_n X dX4_losing_5 0 rfl ?_
  refine V_aload_n X dX4_losing_6 0 rfl ?_
  obtain ⟨i7, hvi7, hki7, h⟩ := rdR_some h
  refine V_get (ci := 3) (N := 15) (C := RX4) (T := TX4) (o := o) (j := 8) X rfl in_X4 (by decide) hK0 (by decide) q229 (fv_3i rfl hvi7) dX4_losing_7 ?_
  refine V_getN (ci := 8) (N := 24) (C := RX9) (T := TX9) (o := i7) (j := 21) X rfl in_X9 (by decide) hki7 (by decide) q420 (fv_0 rfl) dX4_losing_10 ?_
  refine V_put (ty := .int) (ci := 3) (N := 15) (C := RX4) (T := TX4) (o := o) (j := 14) (a := (gI (sI g 311 o l1) 821 i7)) X rfl in_X4 tyX4 tyX4_ok nmX4 (by decide) hK0 (by decide) rfl pfd_I rfl rfl q238 (by rw [fv_0 rfl, gI_sI, if_pos ⟨rfl, rfl⟩]) dX4_losing_13 ?_
  refine V_aload_n X dX4_losing_16 0 rfl ?_
  have hr := Option.some.inj h
  subst hr
  exact V_end_a hX rfl dX4_losing_17
set_option maxHeartbeats 4000000 in
theorem con_x_changes (K : Nat → Nat) (hW : WFK K) (g : GS) (r : (Int × GS)) (h : x_changes K g = some r) : Con yX1_changes cX1_changes 1 (some .boolean) 3 81 K (fun b => [.ref (b + 0)]) g (fun _ => some (vI r.1)) r.2 := by
  refine Con.of RX1 (by decide) rfl (fun b => Nat.le_of_ble_eq_true rfl) (fun x sz hX => ?_)
  have X := hX.1
  unfold x_changes at h
  show V x 1 K 0 0 sz g 0 [(0, .ref (xb x + 0))] []
  refine V_aload_n X dX1_changes_0 0 rfl ?_
  refine V_get (ci := 0) (N := 18) (C := RX1) (T := TX1) (o := 0) (j := 16) X rfl in_X1 (by decide) (hW.at 0 rfl) (by decide) q493 (fv_0 rfl) dX1_changes_1 ?_
  refine V_bipush X dX1_changes_4 (by decide) ?_
  refine V_icmp_ne (tgt := 11) X dX1_changes_6 (by decide) h (fun h => ?_) (fun h => ?_)
  · refine V_aload_n X dX1_changes_11 0 rfl ?_
    refine V_get (ci := 0) (N := 18) (C := RX1) (T := TX1) (o := 0) (j := 3) X rfl in_X1 (by decide) (hW.at 0 rfl) (by decide) q480 (fv_1 (i := 6) rfl rfl) dX1_changes_12 ?_
    refine V_aload_n X dX1_changes_15 0 rfl ?_
    refine V_dup X dX1_changes_16 rfl ?_
    refine V_get (ci := 0) (N := 18) (C := RX1) (T := TX1) (o := 0) (j := 16) X rfl in_X1 (by decide) (hW.at 0 rfl) (by decide) q493 (fv_0 rfl) dX1_changes_17 ?_
    refine V_dup_x1 X dX1_changes_20 rfl rfl ?_
    refine V_iconst X dX1_changes_21 ?_
    refine V_iadd X dX1_changes_22 ?_
    refine V_put (ty := .int) (ci := 0) (N := 18) (C := RX1) (T := TX1) (o := 0) (j := 16) (a := ((gI g 16 0) + 1)) X rfl in_X1 tyX1 tyX1_ok nmX1 (by decide) (hW.at 0 rfl) (by decide) rfl pfd_I rfl rfl q493 (by rw [fv_0 rfl, gI_sI, if_pos ⟨rfl, rfl⟩]) dX1_changes_23 ?_
    obtain ⟨i26, hni26, hvi26, hki26, h⟩ := rdQ_some h
    refine V_aald (o := 6) (t := 4) (n := 20) X (by decide) (by decide) (hW.at 6 rfl) (by decide) hni26 hvi26 dX1_changes_26 ?_
    refine V_aload_n X dX1_changes_27 0 rfl ?_
    refine V_get (ci := 0) (N := 18) (C := RX1) (T := TX1) (o := 0) (j := 2) X rfl in_X1 (by decide) (hW.at 0 rfl) (by decide) q479 (fv_1 (i := 3) rfl rfl) dX1_changes_28 ?_
    obtain ⟨c31, hc31, h⟩ := bind_some_eq h
    refine V_callV (ci := 2) (N := 3) (T := TX3) (As := [.ref (xb x + 3)]) (rest := []) (s1 := [.ref (xb x + i26)]) (o := i26) X (con_xPlan_as K hW i26 hki26 3 (hW.at 3 rfl) (sI g 16 0 ((gI g 16 0) + 1)) c31 hc31) gwX1_as_172 hdV_X3_as (by decide) rfl (by decide) hki26 rfl rfl (Nat.le_of_ble_eq_true rfl) ⟨Nat.zero_le _, Nat.zero_le _⟩ dX1_changes_31 rfl rfl ?_
    refine V_pop X dX1_changes_34 rfl ?_
    refine V_iconst X dX1_changes_35 ?_
    have hr := Option.some.inj h
    subst hr
    exact V_end_z hX (Or.inr rfl) rfl dX1_changes_36
  · refine V_iconst X dX1_changes_9 ?_
    have hr := Option.some.inj h
    subst hr
    exact V_end_z hX (Or.inl rfl) rfl dX1_changes_10
set_option maxHeartbeats 4000000 in
theorem con_xPlan_flips (K : Nat → Nat) (hW : WFK K) (l0 n0 : Nat) (hK0 : K l0 = 10000 + n0 ∧ n0 < 10000) (g : GS) (l1 : Int) (l2 : Int) (r : GS) (h : xPlan_flips l0 n0 g l1 l2 = some r) : Con yX3_flips cX3_flips 4 none 1 12 K (fun b => [.ref (b + l0), vI l1, vI l2]) g (fun _ => none) r := by
  refine Con.of RX3 (by decide) rfl (fun b => Nat.le_of_ble_eq_true rfl) (fun x sz hX => ?_)
  have X := hX.1
  unfold xPlan_flips at h
  show V x 4 K 0 0 sz g 0 [(0, .ref (xb x + l0)), (1, vI l1), (2, vI l2)] []
  refine V_aload_n X dX3_flips_0 0 rfl ?_
  refine V_iload_n X dX3_flips_1 1 rfl ?_
  refine V_iald X (o := l0) (n := n0) hK0.1 hK0.2 dX3_flips_2 h (fun v2 h => ?_)
  refine V_istore_n X dX3_flips_3 (by decide) (L' := [(3, vI v2), (0, .ref (xb x + l0)), (1, vI l1), (2, vI l2)]) rfl ?_
  refine V_aload_n X dX3_flips_4 1 rfl ?_
  refine V_iload_n X dX3_flips_5 2 rfl ?_
  refine V_aload_n X dX3_flips_6 1 rfl ?_
  refine V_iload_n X dX3_flips_7 3 rfl ?_
  refine V_iald X (o := l0) (n := n0) hK0.1 hK0.2 dX3_flips_8 h (fun v8 h => ?_)
  refine V_iast X (o := l0) (n := n0) hK0.1 hK0.2 dX3_flips_9 h (fun g9 h => ?_)
  refine V_aload_n X dX3_flips_10 1 rfl ?_
  refine V_iload_n X dX3_flips_11 3 rfl ?_
  refine V_iload_n X dX3_flips_12 0 rfl ?_
  refine V_iast X (o := l0) (n := n0) hK0.1 hK0.2 dX3_flips_13 h (fun g13 h => ?_)
  have hr := Option.some.inj h
  subst hr
  exact V_end_v hX rfl dX3_flips_14
set_option maxHeartbeats 4000000 in
theorem con_xPlan_swaps (K : Nat → Nat) (hW : WFK K) (o : Nat) (hK0 : K o = 3) (g : GS) (l1 : Int) (l2 : Int) (r : GS) (h : xPlan_swaps o g l1 l2 = some r) : Con yX3_swaps cX3_swaps 3 none 2 35 K (fun b => [.ref (b + o), vI l1, vI l2]) g (fun _ => none) r := by
  refine Con.of RX3 (by decide) rfl (fun b => Nat.le_of_ble_eq_true rfl) (fun x sz hX => ?_)
  have X := hX.1
  unfold xPlan_swaps at h
  show V x 3 K 0 0 sz g 0 [(0, .ref (xb x + o)), (1, vI l1), (2, vI l2)] []
  refine V_aload_n X dX3_swaps_0 0 rfl ?_
  refine V_get (ci := 2) (N := 3) (C := RX3) (T := TX3) (o := o) (j := 0) X rfl in_X3 (by decide) hK0 (by decide) q152 (fv_1 (i := (o + 1)) rfl rfl) dX3_swaps_1 ?_
  refine V_iload_n X dX3_swaps_4 1 rfl ?_
  refine V_iload_n X dX3_swaps_5 2 rfl ?_
  obtain ⟨c6, hc6, h⟩ := bind_some_eq h
  refine V_callS (As := [.ref (xb x + (o + 1)), vI l1, vI l2]) (rest := []) (s1 := []) X (con_xPlan_flips K hW (o + 1) 12 ⟨(hW.blk (by decide) hK0 1 (by decide) rfl), (by decide)⟩ g l1 l2 c6 hc6) gwX3_flips_62 hdS_X3_flips (by decide) rfl rfl (Nat.le_of_ble_eq_true rfl) ⟨Nat.zero_le _, Nat.zero_le _⟩ dX3_swaps_6 rfl rfl ?_
  refine V_aload_n X dX3_swaps_9 0 rfl ?_
  refine V_get (ci := 2) (N := 3) (C := RX3) (T := TX3) (o := o) (j := 1) X rfl in_X3 (by decide) hK0 (by decide) q155 (fv_1 (i := (o + 2)) rfl rfl) dX3_swaps_10 ?_
  refine V_iload_n X dX3_swaps_13 1 rfl ?_
  refine V_iload_n X dX3_swaps_14 2 rfl ?_
  obtain ⟨c15, hc15, h⟩ := bind_some_eq h
  refine V_callS (As := [.ref (xb x + (o + 2)), vI l1, vI l2]) (rest := []) (s1 := []) X (con_xPlan_flips K hW (o + 2) 12 ⟨(hW.blk (by decide) hK0 2 (by decide) rfl), (by decide)⟩ c6 l1 l2 c15 hc15) gwX3_flips_62 hdS_X3_flips (by decide) rfl rfl (Nat.le_of_ble_eq_true rfl) ⟨Nat.zero_le _, Nat.zero_le _⟩ dX3_swaps_15 rfl rfl ?_
  have hr := Option.some.inj h
  subst hr
  exact V_end_v hX rfl dX3_swaps_18
set_option maxHeartbeats 4000000 in
theorem con_xPlan_drops (K : Nat → Nat) (hW : WFK K) (N : Nat) (o : Nat) (hK0 : K o = 3) (g : GS) (l1 : Int) (r : GS) (h : xPlan_drops N o g l1 = some r) : Con yX3_drops cX3_drops 3 none 1 12 K (fun b => [.ref (b + o), vI l1]) g (fun _ => none) r := by
  refine Con.of RX3 (by decide) rfl (fun b => Nat.le_of_ble_eq_true rfl) (fun x sz hX => ?_)
  have X := hX.1
  have LL12 : ∀  (n : Nat) (s : (GS × Int)) (e : GS), loopN (fun s => xPlan_drops_b12 N o s.1 s.2) n s = some e → (e = r) → V x 3 K 0 0 sz s.1 12 [(0, .ref (xb x + o)), (2, vI s.2)] [] := by
    intro  n s e
    refine loop_walk (P := fun s => V x 3 K 0 0 sz s.1 12 [(0, .ref (xb x + o)), (2, vI s.2)] []) (E := fun e => e = r) ?_ n s e
    clear e s n
    rintro ⟨g, l2⟩ q12 h hc12 he12
    replace h : xPlan_drops_b12 N o g l2 = some q12 := h
    unfold xPlan_drops_b12 at h
    show V x 3 K 0 0 sz g 12 [(0, .ref (xb x + o)), (2, vI l2)] []
    refine V_iload_n X dX3_drops_12 1 rfl ?_
    refine V_aload_n X dX3_drops_13 0 rfl ?_
    refine V_get (ci := 2) (N := 3) (C := RX3) (T := TX3) (o := o) (j := 2) X rfl in_X3 (by decide) hK0 (by decide) q158 (fv_0 rfl) dX3_drops_14 ?_
    refine V_icmp_ge (tgt := 54) X dX3_drops_17 (by decide) h (fun h => ?_) (fun h => ?_)
    · obtain ⟨e1, h, e1q⟩ := outR_some h
      replace h := h.trans (congrArg some (he12 _ e1q))
      have hr := Option.some.inj h
      subst hr
      exact V_end_v hX rfl dX3_drops_54
    · refine V_aload_n X dX3_drops_20 0 rfl ?_
      refine V_get (ci := 2) (N := 3) (C := RX3) (T := TX3) (o := o) (j := 0) X rfl in_X3 (by decide) hK0 (by decide) q152 (fv_1 (i := (o + 1)) rfl rfl) dX3_drops_21 ?_
      refine V_iload_n X dX3_drops_24 1 rfl ?_
      refine V_aload_n X dX3_drops_25 0 rfl ?_
      refine V_get (ci := 2) (N := 3) (C := RX3) (T := TX3) (o := o) (j := 0) X rfl in_X3 (by decide) hK0 (by decide) q152 (fv_1 (i := (o + 1)) rfl rfl) dX3_drops_26 ?_
      refine V_iload_n X dX3_drops_29 1 rfl ?_
      refine V_iconst X dX3_drops_30 ?_
      refine V_iadd X dX3_drops_31 ?_
      refine V_iald X (o := (o + 1)) (n := 12) (hW.blk (by decide) hK0 1 (by decide) rfl) (by decide) dX3_drops_32 h (fun v32 h => ?_)
      refine V_iast X (o := (o + 1)) (n := 12) (hW.blk (by decide) hK0 1 (by decide) rfl) (by decide) dX3_drops_33 h (fun g33 h => ?_)
      refine V_aload_n X dX3_drops_34 0 rfl ?_
      refine V_get (ci := 2) (N := 3) (C := RX3) (T := TX3) (o := o) (j := 1) X rfl in_X3 (by decide) hK0 (by decide) q155 (fv_1 (i := (o + 2)) rfl rfl) dX3_drops_35 ?_
      refine V_iload_n X dX3_drops_38 1 rfl ?_
      refine V_aload_n X dX3_drops_39 0 rfl ?_
      refine V_get (ci := 2) (N := 3) (C := RX3) (T := TX3) (o := o) (j := 1) X rfl in_X3 (by decide) hK0 (by decide) q155 (fv_1 (i := (o + 2)) rfl rfl) dX3_drops_40 ?_
      refine V_iload_n X dX3_drops_43 1 rfl ?_
      refine V_iconst X dX3_drops_44 ?_
      refine V_iadd X dX3_drops_45 ?_
      refine V_iald X (o := (o + 2)) (n := 12) (hW.blk (by decide) hK0 2 (by decide) rfl) (by decide) dX3_drops_46 h (fun v46 h => ?_)
      refine V_iast X (o := (o + 2)) (n := 12) (hW.blk (by decide) hK0 2 (by decide) rfl) (by decide) dX3_drops_47 h (fun g47 h => ?_)
      refine V_iinc X dX3_drops_48 1 rfl (by decide) (L' := [(2, vI (l2 + 1)), (0, .ref (xb x + o))]) rfl ?_
      refine V_goto (tgt := 12) X dX3_drops_51 (by decide) ?_
      exact V_sub [1, 0] rfl (hc12 _ (Option.some.inj h).symm)
  unfold xPlan_drops at h
  show V x 3 K 0 0 sz g 0 [(0, .ref (xb x + o)), (1, vI l1)] []
  refine V_aload_n X dX3_drops_0 0 rfl ?_
  refine V_dup X dX3_drops_1 rfl ?_
  refine V_get (ci := 2) (N := 3) (C := RX3) (T := TX3) (o := o) (j := 2) X rfl in_X3 (by decide) hK0 (by decide) q158 (fv_0 rfl) dX3_drops_2 ?_
  refine V_iconst X dX3_drops_5 ?_
  refine V_isub X dX3_drops_6 ?_
  refine V_put (ty := .int) (ci := 2) (N := 3) (C := RX3) (T := TX3) (o := o) (j := 2) (a := ((gI g 202 o) - 1)) X rfl in_X3 tyX3 tyX3_ok nmX3 (by decide) hK0 (by decide) rfl pfd_I rfl rfl q158 (by rw [fv_0 rfl, gI_sI, if_pos ⟨rfl, rfl⟩]) dX3_drops_7 ?_
  refine V_iload_n X dX3_drops_10 1 rfl ?_
  refine V_istore_n X dX3_drops_11 (by decide) (L' := [(2, vI l1), (0, .ref (xb x + o)), (1, vI l1)]) rfl ?_
  exact V_sub [1, 0] rfl (LL12 N ((sI g 202 o ((gI g 202 o) - 1)), l1) _ h rfl)
set_option maxHeartbeats 4000000 in
theorem con_x_undo (K : Nat → Nat) (hW : WFK K) (g : GS) (r : (Int × GS)) (h : x_undo K g = some r) : Con yX1_undo cX1_undo 1 (some .int) 3 81 K (fun b => [.ref (b + 0)]) g (fun _ => some (vI r.1)) r.2 := by
  refine Con.of RX1 (by decide) rfl (fun b => Nat.le_of_ble_eq_true rfl) (fun x sz hX => ?_)
  have X := hX.1
  unfold x_undo at h
  show V x 1 K 0 0 sz g 0 [(0, .ref (xb x + 0))] []
  refine V_aload_n X dX1_undo_0 0 rfl ?_
  refine V_get (ci := 0) (N := 18) (C := RX1) (T := TX1) (o := 0) (j := 16) X rfl in_X1 (by decide) (hW.at 0 rfl) (by decide) q493 (fv_0 rfl) dX1_undo_1 ?_
  refine V_if_ne (tgt := 9) X dX1_undo_4 (by decide) h (fun h => ?_) (fun h => ?_)
  · refine V_aload_n X dX1_undo_9 0 rfl ?_
    refine V_get (ci := 0) (N := 18) (C := RX1) (T := TX1) (o := 0) (j := 2) X rfl in_X1 (by decide) (hW.at 0 rfl) (by decide) q479 (fv_1 (i := 3) rfl rfl) dX1_undo_10 ?_
    refine V_aload_n X dX1_undo_13 0 rfl ?_
    refine V_get (ci := 0) (N := 18) (C := RX1) (T := TX1) (o := 0) (j := 3) X rfl in_X1 (by decide) (hW.at 0 rfl) (by decide) q480 (fv_1 (i := 6) rfl rfl) dX1_undo_14 ?_
    refine V_aload_n X dX1_undo_17 0 rfl ?_
    refine V_dup X dX1_undo_18 rfl ?_
    refine V_get (ci := 0) (N := 18) (C := RX1) (T := TX1) (o := 0) (j := 16) X rfl in_X1 (by decide) (hW.at 0 rfl) (by decide) q493 (fv_0 rfl) dX1_undo_19 ?_
    refine V_iconst X dX1_undo_22 ?_
    refine V_isub X dX1_undo_23 ?_
    refine V_dup_x1 X dX1_undo_24 rfl rfl ?_
    refine V_put (ty := .int) (ci := 0) (N := 18) (C := RX1) (T := TX1) (o := 0) (j := 16) (a := ((gI g 16 0) - 1)) X rfl in_X1 tyX1 tyX1_ok nmX1 (by decide) (hW.at 0 rfl) (by decide) rfl pfd_I rfl rfl q493 (by rw [fv_0 rfl, gI_sI, if_pos ⟨rfl, rfl⟩]) dX1_undo_25 ?_
    obtain ⟨i28, hni28, hvi28, hki28, h⟩ := rdQ_some h
    refine V_aald (o := 6) (t := 4) (n := 20) X (by decide) (by decide) (hW.at 6 rfl) (by decide) hni28 hvi28 dX1_undo_28 ?_
    obtain ⟨c29, hc29, h⟩ := bind_some_eq h
    refine V_callV (ci := 2) (N := 3) (T := TX3) (As := [.ref (xb x + i28)]) (rest := []) (s1 := [.ref (xb x + 3)]) (o := 3) X (con_xPlan_as K hW 3 (hW.at 3 rfl) i28 hki28 (sI g 16 0 ((gI g 16 0) - 1)) c29 hc29) gwX1_as_172 hdV_X3_as (by decide) rfl (by decide) (hW.at 3 rfl) rfl rfl (Nat.le_of_ble_eq_true rfl) ⟨Nat.zero_le _, Nat.zero_le _⟩ dX1_undo_29 rfl rfl ?_
    refine V_pop X dX1_undo_32 rfl ?_
    refine V_aload_n X dX1_undo_33 0 rfl ?_
    refine V_get (ci := 0) (N := 18) (C := RX1) (T := TX1) (o := 0) (j := 16) X rfl in_X1 (by decide) (hW.at 0 rfl) (by decide) q493 (fv_0 rfl) dX1_undo_34 ?_
    have hr := Option.some.inj h
    subst hr
    exact V_end_i hX rfl dX1_undo_37
  · refine V_iconst X dX1_undo_7 ?_
    have hr := Option.some.inj h
    subst hr
    exact V_end_i hX rfl dX1_undo_8
set_option maxHeartbeats 4000000 in
theorem con_x_image (K : Nat → Nat) (hW : WFK K) (N : Nat) (g : GS) (r : (Int × GS)) (h : x_image N K g = some r) : Con yX1_image cX1_image 2 (some .int) 3 81 K (fun b => [.ref (b + 0)]) g (fun _ => some (vI r.1)) r.2 := by
  refine Con.of RX1 (by decide) rfl (fun b => Nat.le_of_ble_eq_true rfl) (fun x sz hX => ?_)
  have X := hX.1
  have LL12 : ∀  (n : Nat) (s : (GS × Int)) (e : (GS)), loopN (fun s => x_image_b12 N K s.1 s.2) n s = some e → V x 2 K 0 0 sz e 47 [(0, .ref (xb x + 0))] [] → V x 2 K 0 0 sz s.1 12 [(0, .ref (xb x + 0)), (1, vI s.2)] [] := by
    intro  n s e
    refine loop_walk (P := fun s => V x 2 K 0 0 sz s.1 12 [(0, .ref (xb x + 0)), (1, vI s.2)] []) (E := fun e => V x 2 K 0 0 sz e 47 [(0, .ref (xb x + 0))] []) ?_ n s e
    clear e s n
    rintro ⟨g, l1⟩ q12 h hc12 he12
    replace h : x_image_b12 N K g l1 = some q12 := h
    unfold x_image_b12 at h
    show V x 2 K 0 0 sz g 12 [(0, .ref (xb x + 0)), (1, vI l1)] []
    refine V_iload_n X dX1_image_12 1 rfl ?_
    refine V_aload_n X dX1_image_13 0 rfl ?_
    refine V_get (ci := 0) (N := 18) (C := RX1) (T := TX1) (o := 0) (j := 16) X rfl in_X1 (by decide) (hW.at 0 rfl) (by decide) q493 (fv_0 rfl) dX1_image_14 ?_
    refine V_icmp_ge (tgt := 47) X dX1_image_17 (by decide) h (fun h => ?_) (fun h => ?_)
    · exact V_sub [0] rfl (he12 _ (Option.some.inj h).symm)
    · refine V_aload_n X dX1_image_20 0 rfl ?_
      refine V_get (ci := 0) (N := 18) (C := RX1) (T := TX1) (o := 0) (j := 4) X rfl in_X1 (by decide) (hW.at 0 rfl) (by decide) q481 (fv_1 (i := 7) rfl rfl) dX1_image_21 ?_
      refine V_aload_n X dX1_image_24 0 rfl ?_
      refine V_get (ci := 0) (N := 18) (C := RX1) (T := TX1) (o := 0) (j := 17) X rfl in_X1 (by decide) (hW.at 0 rfl) (by decide) q494 (fv_0 rfl) dX1_image_25 ?_
      obtain ⟨i28, hni28, hvi28, hki28, h⟩ := rdQ_some h
      refine V_aald (o := 7) (t := 5) (n := 3) X (by decide) (by decide) (hW.at 7 rfl) (by decide) hni28 hvi28 dX1_image_28 ?_
      refine V_iload_n X dX1_image_29 1 rfl ?_
      obtain ⟨i30, hni30, hvi30, hki30, h⟩ := rdQ_some h
      refine V_aald (o := i28) (t := 4) (n := 21) X (by decide) (by decide) hki28 (by decide) hni30 hvi30 dX1_image_30 ?_
      refine V_aload_n X dX1_image_31 0 rfl ?_
      refine V_get (ci := 0) (N := 18) (C := RX1) (T := TX1) (o := 0) (j := 3) X rfl in_X1 (by decide) (hW.at 0 rfl) (by decide) q480 (fv_1 (i := 6) rfl rfl) dX1_image_32 ?_
      refine V_iload_n X dX1_image_35 1 rfl ?_
      obtain ⟨i36, hni36, hvi36, hki36, h⟩ := rdQ_some h
      refine V_aald (o := 6) (t := 4) (n := 20) X (by decide) (by decide) (hW.at 6 rfl) (by decide) hni36 hvi36 dX1_image_36 ?_
      obtain ⟨c37, hc37, h⟩ := bind_some_eq h
      refine V_callV (ci := 2) (N := 3) (T := TX3) (As := [.ref (xb x + i36)]) (rest := []) (s1 := [.ref (xb x + i30)]) (o := i30) X (con_xPlan_as K hW i30 hki30 i36 hki36 g c37 hc37) gwX1_as_172 hdV_X3_as (by decide) rfl (by decide) hki30 rfl rfl (Nat.le_of_ble_eq_true rfl) ⟨Nat.zero_le _, Nat.zero_le _⟩ dX1_image_37 rfl rfl ?_
      refine V_pop X dX1_image_40 rfl ?_
      refine V_iinc X dX1_image_41 1 rfl (by decide) (L' := [(1, vI (l1 + 1)), (0, .ref (xb x + 0))]) rfl ?_
      refine V_goto (tgt := 12) X dX1_image_44 (by decide) ?_
      exact V_sub [1, 0] rfl (hc12 _ (Option.some.inj h).symm)
  unfold x_image at h
  show V x 2 K 0 0 sz g 0 [(0, .ref (xb x + 0))] []
  refine V_aload_n X dX1_image_0 0 rfl ?_
  refine V_get (ci := 0) (N := 18) (C := RX1) (T := TX1) (o := 0) (j := 17) X rfl in_X1 (by decide) (hW.at 0 rfl) (by decide) q494 (fv_0 rfl) dX1_image_1 ?_
  refine V_iconst X dX1_image_4 ?_
  refine V_icmp_ne (tgt := 10) X dX1_image_5 (by decide) h (fun h => ?_) (fun h => ?_)
  · refine V_iconst X dX1_image_10 ?_
    refine V_istore_n X dX1_image_11 (by decide) (L' := [(1, vI 0), (0, .ref (xb x + 0))]) rfl ?_
    obtain ⟨t1, t1q, h⟩ := bind_some_eq h
    refine V_sub [1, 0] rfl (LL12 N (g, 0) _ t1q ?_)
    refine V_aload_n X dX1_image_47 0 rfl ?_
    refine V_get (ci := 0) (N := 18) (C := RX1) (T := TX1) (o := 0) (j := 4) X rfl in_X1 (by decide) (hW.at 0 rfl) (by decide) q481 (fv_1 (i := 7) rfl rfl) dX1_image_48 ?_
    refine V_aload_n X dX1_image_51 0 rfl ?_
    refine V_get (ci := 0) (N := 18) (C := RX1) (T := TX1) (o := 0) (j := 17) X rfl in_X1 (by decide) (hW.at 0 rfl) (by decide) q494 (fv_0 rfl) dX1_image_52 ?_
    obtain ⟨i55, hni55, hvi55, hki55, h⟩ := rdQ_some h
    refine V_aald (o := 7) (t := 5) (n := 3) X (by decide) (by decide) (hW.at 7 rfl) (by decide) hni55 hvi55 dX1_image_55 ?_
    refine V_bipush X dX1_image_56 (by decide) ?_
    obtain ⟨i58, hni58, hvi58, hki58, h⟩ := rdQ_some h
    refine V_aald (o := i55) (t := 4) (n := 21) X (by decide) (by decide) hki55 (by decide) hni58 hvi58 dX1_image_58 ?_
    refine V_aload_n X dX1_image_59 0 rfl ?_
    refine V_get (ci := 0) (N := 18) (C := RX1) (T := TX1) (o := 0) (j := 2) X rfl in_X1 (by decide) (hW.at 0 rfl) (by decide) q479 (fv_1 (i := 3) rfl rfl) dX1_image_60 ?_
    obtain ⟨c63, hc63, h⟩ := bind_some_eq h
    refine V_callV (ci := 2) (N := 3) (T := TX3) (As := [.ref (xb x + 3)]) (rest := []) (s1 := [.ref (xb x + i58)]) (o := i58) X (con_xPlan_as K hW i58 hki58 3 (hW.at 3 rfl) t1 c63 hc63) gwX1_as_172 hdV_X3_as (by decide) rfl (by decide) hki58 rfl rfl (Nat.le_of_ble_eq_true rfl) ⟨Nat.zero_le _, Nat.zero_le _⟩ dX1_image_63 rfl rfl ?_
    refine V_pop X dX1_image_66 rfl ?_
    refine V_aload_n X dX1_image_67 0 rfl ?_
    refine V_get (ci := 0) (N := 18) (C := RX1) (T := TX1) (o := 0) (j := 5) X rfl in_X1 (by decide) (hW.at 0 rfl) (by decide) q482 (fv_1 (i := 11) rfl rfl) dX1_image_68 ?_
    refine V_aload_n X dX1_image_71 0 rfl ?_
    refine V_get (ci := 0) (N := 18) (C := RX1) (T := TX1) (o := 0) (j := 17) X rfl in_X1 (by decide) (hW.at 0 rfl) (by decide) q494 (fv_0 rfl) dX1_image_72 ?_
    refine V_aload_n X dX1_image_75 0 rfl ?_
    refine V_get (ci := 0) (N := 18) (C := RX1) (T := TX1) (o := 0) (j := 16) X rfl in_X1 (by decide) (hW.at 0 rfl) (by decide) q493 (fv_0 rfl) dX1_image_76 ?_
    refine V_iast X (o := 11) (n := 3) (hW.at 11 rfl) (by decide) dX1_image_79 h (fun g79 h => ?_)
    refine V_aload_n X dX1_image_80 0 rfl ?_
    refine V_dup X dX1_image_81 rfl ?_
    refine V_get (ci := 0) (N := 18) (C := RX1) (T := TX1) (o := 0) (j := 17) X rfl in_X1 (by decide) (hW.at 0 rfl) (by decide) q494 (fv_0 rfl) dX1_image_82 ?_
    refine V_iconst X dX1_image_85 ?_
    refine V_iadd X dX1_image_86 ?_
    refine V_dup_x1 X dX1_image_87 rfl rfl ?_
    refine V_put (ty := .int) (ci := 0) (N := 18) (C := RX1) (T := TX1) (o := 0) (j := 17) (a := ((gI g79 17 0) + 1)) X rfl in_X1 tyX1 tyX1_ok nmX1 (by decide) (hW.at 0 rfl) (by decide) rfl pfd_I rfl rfl q494 (by rw [fv_0 rfl, gI_sI, if_pos ⟨rfl, rfl⟩]) dX1_image_88 ?_
    have hr := Option.some.inj h
    subst hr
    exact V_end_i hX rfl dX1_image_91
  · refine V_iconst X dX1_image_8 ?_
    have hr := Option.some.inj h
    subst hr
    exact V_end_i hX rfl dX1_image_9
set_option maxHeartbeats 4000000 in
theorem con_x_restore (K : Nat → Nat) (hW : WFK K) (N : Nat) (g : GS) (r : (Int × GS)) (h : x_restore N K g = some r) : Con yX1_restore cX1_restore 2 (some .int) 3 81 K (fun b => [.ref (b + 0)]) g (fun _ => some (vI r.1)) r.2 := by
  refine Con.of RX1 (by decide) rfl (fun b => Nat.le_of_ble_eq_true rfl) (fun x sz hX => ?_)
  have X := hX.1
  have LL34 : ∀  (n : Nat) (s : (GS × Int)) (e : (GS)), loopN (fun s => x_restore_b34 N K s.1 s.2) n s = some e → V x 2 K 0 0 sz e 69 [(0, .ref (xb x + 0))] [] → V x 2 K 0 0 sz s.1 34 [(0, .ref (xb x + 0)), (1, vI s.2)] [] := by
    intro  n s e
    refine loop_walk (P := fun s => V x 2 K 0 0 sz s.1 34 [(0, .ref (xb x + 0)), (1, vI s.2)] []) (E := fun e => V x 2 K 0 0 sz e 69 [(0, .ref (xb x + 0))] []) ?_ n s e
    clear e s n
    rintro ⟨g, l1⟩ q34 h hc34 he34
    replace h : x_restore_b34 N K g l1 = some q34 := h
    unfold x_restore_b34 at h
    show V x 2 K 0 0 sz g 34 [(0, .ref (xb x + 0)), (1, vI l1)] []
    refine V_iload_n X dX1_restore_34 1 rfl ?_
    refine V_aload_n X dX1_restore_35 0 rfl ?_
    refine V_get (ci := 0) (N := 18) (C := RX1) (T := TX1) (o := 0) (j := 16) X rfl in_X1 (by decide) (hW.at 0 rfl) (by decide) q493 (fv_0 rfl) dX1_restore_36 ?_
    refine V_icmp_ge (tgt := 69) X dX1_restore_39 (by decide) h (fun h => ?_) (fun h => ?_)
    · exact V_sub [0] rfl (he34 _ (Option.some.inj h).symm)
    · refine V_aload_n X dX1_restore_42 0 rfl ?_
      refine V_get (ci := 0) (N := 18) (C := RX1) (T := TX1) (o := 0) (j := 3) X rfl in_X1 (by decide) (hW.at 0 rfl) (by decide) q480 (fv_1 (i := 6) rfl rfl) dX1_restore_43 ?_
      refine V_iload_n X dX1_restore_46 1 rfl ?_
      obtain ⟨i47, hni47, hvi47, hki47, h⟩ := rdQ_some h
      refine V_aald (o := 6) (t := 4) (n := 20) X (by decide) (by decide) (hW.at 6 rfl) (by decide) hni47 hvi47 dX1_restore_47 ?_
      refine V_aload_n X dX1_restore_48 0 rfl ?_
      refine V_get (ci := 0) (N := 18) (C := RX1) (T := TX1) (o := 0) (j := 4) X rfl in_X1 (by decide) (hW.at 0 rfl) (by decide) q481 (fv_1 (i := 7) rfl rfl) dX1_restore_49 ?_
      refine V_aload_n X dX1_restore_52 0 rfl ?_
      refine V_get (ci := 0) (N := 18) (C := RX1) (T := TX1) (o := 0) (j := 17) X rfl in_X1 (by decide) (hW.at 0 rfl) (by decide) q494 (fv_0 rfl) dX1_restore_53 ?_
      obtain ⟨i56, hni56, hvi56, hki56, h⟩ := rdQ_some h
      refine V_aald (o := 7) (t := 5) (n := 3) X (by decide) (by decide) (hW.at 7 rfl) (by decide) hni56 hvi56 dX1_restore_56 ?_
      refine V_iload_n X dX1_restore_57 1 rfl ?_
      obtain ⟨i58, hni58, hvi58, hki58, h⟩ := rdQ_some h
      refine V_aald (o := i56) (t := 4) (n := 21) X (by decide) (by decide) hki56 (by decide) hni58 hvi58 dX1_restore_58 ?_
      obtain ⟨c59, hc59, h⟩ := bind_some_eq h
      refine V_callV (ci := 2) (N := 3) (T := TX3) (As := [.ref (xb x + i58)]) (rest := []) (s1 := [.ref (xb x + i47)]) (o := i47) X (con_xPlan_as K hW i47 hki47 i58 hki58 g c59 hc59) gwX1_as_172 hdV_X3_as (by decide) rfl (by decide) hki47 rfl rfl (Nat.le_of_ble_eq_true rfl) ⟨Nat.zero_le _, Nat.zero_le _⟩ dX1_restore_59 rfl rfl ?_
      refine V_pop X dX1_restore_62 rfl ?_
      refine V_iinc X dX1_restore_63 1 rfl (by decide) (L' := [(1, vI (l1 + 1)), (0, .ref (xb x + 0))]) rfl ?_
      refine V_goto (tgt := 34) X dX1_restore_66 (by decide) ?_
      exact V_sub [1, 0] rfl (hc34 _ (Option.some.inj h).symm)
  unfold x_restore at h
  show V x 2 K 0 0 sz g 0 [(0, .ref (xb x + 0))] []
  refine V_aload_n X dX1_restore_0 0 rfl ?_
  refine V_get (ci := 0) (N := 18) (C := RX1) (T := TX1) (o := 0) (j := 17) X rfl in_X1 (by decide) (hW.at 0 rfl) (by decide) q494 (fv_0 rfl) dX1_restore_1 ?_
  refine V_if_ne (tgt := 9) X dX1_restore_4 (by decide) h (fun h => ?_) (fun h => ?_)
  · refine V_aload_n X dX1_restore_9 0 rfl ?_
    refine V_dup X dX1_restore_10 rfl ?_
    refine V_get (ci := 0) (N := 18) (C := RX1) (T := TX1) (o := 0) (j := 17) X rfl in_X1 (by decide) (hW.at 0 rfl) (by decide) q494 (fv_0 rfl) dX1_restore_11 ?_
    refine V_iconst X dX1_restore_14 ?_
    refine V_isub X dX1_restore_15 ?_
    refine V_put (ty := .int) (ci := 0) (N := 18) (C := RX1) (T := TX1) (o := 0) (j := 17) (a := ((gI g 17 0) - 1)) X rfl in_X1 tyX1 tyX1_ok nmX1 (by decide) (hW.at 0 rfl) (by decide) rfl pfd_I rfl rfl q494 (by rw [fv_0 rfl, gI_sI, if_pos ⟨rfl, rfl⟩]) dX1_restore_16 ?_
    refine V_aload_n X dX1_restore_19 0 rfl ?_
    refine V_aload_n X dX1_restore_20 0 rfl ?_
    refine V_get (ci := 0) (N := 18) (C := RX1) (T := TX1) (o := 0) (j := 5) X rfl in_X1 (by decide) (hW.at 0 rfl) (by decide) q482 (fv_1 (i := 11) rfl rfl) dX1_restore_21 ?_
    refine V_aload_n X dX1_restore_24 0 rfl ?_
    refine V_get (ci := 0) (N := 18) (C := RX1) (T := TX1) (o := 0) (j := 17) X rfl in_X1 (by decide) (hW.at 0 rfl) (by decide) q494 (fv_0 rfl) dX1_restore_25 ?_
    refine V_iald X (o := 11) (n := 3) (hW.at 11 rfl) (by decide) dX1_restore_28 h (fun v28 h => ?_)
    refine V_put (ty := .int) (ci := 0) (N := 18) (C := RX1) (T := TX1) (o := 0) (j := 16) (a := v28) X rfl in_X1 tyX1 tyX1_ok nmX1 (by decide) (hW.at 0 rfl) (by decide) rfl pfd_I rfl rfl q493 (by rw [fv_0 rfl, gI_sI, if_pos ⟨rfl, rfl⟩]) dX1_restore_29 ?_
    refine V_iconst X dX1_restore_32 ?_
    refine V_istore_n X dX1_restore_33 (by decide) (L' := [(1, vI 0), (0, .ref (xb x + 0))]) rfl ?_
    obtain ⟨t1, t1q, h⟩ := bind_some_eq h
    refine V_sub [1, 0] rfl (LL34 N ((sI (sI g 17 0 ((gI g 17 0) - 1)) 16 0 v28), 0) _ t1q ?_)
    refine V_aload_n X dX1_restore_69 0 rfl ?_
    refine V_get (ci := 0) (N := 18) (C := RX1) (T := TX1) (o := 0) (j := 2) X rfl in_X1 (by decide) (hW.at 0 rfl) (by decide) q479 (fv_1 (i := 3) rfl rfl) dX1_restore_70 ?_
    refine V_aload_n X dX1_restore_73 0 rfl ?_
    refine V_get (ci := 0) (N := 18) (C := RX1) (T := TX1) (o := 0) (j := 4) X rfl in_X1 (by decide) (hW.at 0 rfl) (by decide) q481 (fv_1 (i := 7) rfl rfl) dX1_restore_74 ?_
    refine V_aload_n X dX1_restore_77 0 rfl ?_
    refine V_get (ci := 0) (N := 18) (C := RX1) (T := TX1) (o := 0) (j := 17) X rfl in_X1 (by decide) (hW.at 0 rfl) (by decide) q494 (fv_0 rfl) dX1_restore_78 ?_
    obtain ⟨i81, hni81, hvi81, hki81, h⟩ := rdQ_some h
    refine V_aald (o := 7) (t := 5) (n := 3) X (by decide) (by decide) (hW.at 7 rfl) (by decide) hni81 hvi81 dX1_restore_81 ?_
    refine V_bipush X dX1_restore_82 (by decide) ?_
    obtain ⟨i84, hni84, hvi84, hki84, h⟩ := rdQ_some h
    refine V_aald (o := i81) (t := 4) (n := 21) X (by decide) (by decide) hki81 (by decide) hni84 hvi84 dX1_restore_84 ?_
    obtain ⟨c85, hc85, h⟩ := bind_some_eq h
    refine V_callV (ci := 2) (N := 3) (T := TX3) (As := [.ref (xb x + i84)]) (rest := []) (s1 := [.ref (xb x + 3)]) (o := 3) X (con_xPlan_as K hW 3 (hW.at 3 rfl) i84 hki84 t1 c85 hc85) gwX1_as_172 hdV_X3_as (by decide) rfl (by decide) (hW.at 3 rfl) rfl rfl (Nat.le_of_ble_eq_true rfl) ⟨Nat.zero_le _, Nat.zero_le _⟩ dX1_restore_85 rfl rfl ?_
    refine V_pop X dX1_restore_88 rfl ?_
    refine V_aload_n X dX1_restore_89 0 rfl ?_
    refine V_get (ci := 0) (N := 18) (C := RX1) (T := TX1) (o := 0) (j := 17) X rfl in_X1 (by decide) (hW.at 0 rfl) (by decide) q494 (fv_0 rfl) dX1_restore_90 ?_
    have hr := Option.some.inj h
    subst hr
    exact V_end_i hX rfl dX1_restore_93
  · refine V_iconst X dX1_restore_7 ?_
    have hr := Option.some.inj h
    subst hr
    exact V_end_i hX rfl dX1_restore_8
set_option maxHeartbeats 4000000 in
theorem con_x_status (K : Nat → Nat) (hW : WFK K) (g : GS) (l1 : Int) (r : Int) (h : x_status g l1 = some r) : Con yX1_status cX1_status 2 (some .int) 1 12 K (fun b => [.ref (b + 0), vI l1]) g (fun _ => some (vI r)) g := by
  refine Con.of RX1 (by decide) rfl (fun b => Nat.le_of_ble_eq_true rfl) (fun x sz hX => ?_)
  have X := hX.1
  unfold x_status at h
  show V x 2 K 0 0 sz g 0 [(0, .ref (xb x + 0)), (1, vI l1)] []
  refine V_iload_n X dX1_status_0 1 rfl ?_
  refine V_if_lt (tgt := 9) X dX1_status_1 (by decide) h (fun h => ?_) (fun h => ?_)
  · refine V_iconst X dX1_status_9 ?_
    refine V_goto (tgt := 19) X dX1_status_10 (by decide) ?_
    have hr := Option.some.inj h
    subst hr
    exact V_end_i hX rfl dX1_status_19
  · refine V_iload_n X dX1_status_4 1 rfl ?_
    refine V_iconst X dX1_status_5 ?_
    refine V_icmp_le (tgt := 13) X dX1_status_6 (by decide) h (fun h => ?_) (fun h => ?_)
    · refine V_aload_n X dX1_status_13 0 rfl ?_
      refine V_get (ci := 0) (N := 18) (C := RX1) (T := TX1) (o := 0) (j := 6) X rfl in_X1 (by decide) (hW.at 0 rfl) (by decide) q483 (fv_1 (i := 12) rfl rfl) dX1_status_14 ?_
      refine V_iload_n X dX1_status_17 1 rfl ?_
      refine V_iald X (o := 12) (n := 3) (hW.at 12 rfl) (by decide) dX1_status_18 h (fun v18 h => ?_)
      have hr := Option.some.inj h
      subst hr
      exact V_end_i hX rfl dX1_status_19
    · refine V_iconst X dX1_status_9 ?_
      refine V_goto (tgt := 19) X dX1_status_10 (by decide) ?_
      have hr := Option.some.inj h
      subst hr
      exact V_end_i hX rfl dX1_status_19
set_option maxHeartbeats 4000000 in
theorem con_x_count (K : Nat → Nat) (hW : WFK K) (g : GS) (l1 : Int) (r : Int) (h : x_count g l1 = some r) : Con yX1_count cX1_count 2 (some .int) 1 12 K (fun b => [.ref (b + 0), vI l1]) g (fun _ => some (vI r)) g := by
  refine Con.of RX1 (by decide) rfl (fun b => Nat.le_of_ble_eq_true rfl) (fun x sz hX => ?_)
  have X := hX.1
  unfold x_count at h
  show V x 2 K 0 0 sz g 0 [(0, .ref (xb x + 0)), (1, vI l1)] []
  refine V_iload_n X dX1_count_0 1 rfl ?_
  refine V_if_ne (tgt := 11) X dX1_count_1 (by decide) h (fun h => ?_) (fun h => ?_)
  · refine V_iload_n X dX1_count_11 1 rfl ?_
    refine V_iconst X dX1_count_12 ?_
    refine V_icmp_ne (tgt := 23) X dX1_count_13 (by decide) h (fun h => ?_) (fun h => ?_)
    · refine V_iload_n X dX1_count_23 1 rfl ?_
      refine V_iconst X dX1_count_24 ?_
      refine V_icmp_ne (tgt := 35) X dX1_count_25 (by decide) h (fun h => ?_) (fun h => ?_)
      · refine V_iconst X dX1_count_35 ?_
        have hr := Option.some.inj h
        subst hr
        exact V_end_i hX rfl dX1_count_36
      · refine V_aload_n X dX1_count_28 0 rfl ?_
        refine V_get (ci := 0) (N := 18) (C := RX1) (T := TX1) (o := 0) (j := 16) X rfl in_X1 (by decide) (hW.at 0 rfl) (by decide) q493 (fv_0 rfl) dX1_count_29 ?_
        refine V_goto (tgt := 36) X dX1_count_32 (by decide) ?_
        have hr := Option.some.inj h
        subst hr
        exact V_end_i hX rfl dX1_count_36
    · refine V_aload_n X dX1_count_16 0 rfl ?_
      refine V_get (ci := 0) (N := 18) (C := RX1) (T := TX1) (o := 0) (j := 13) X rfl in_X1 (by decide) (hW.at 0 rfl) (by decide) q490 (fv_0 rfl) dX1_count_17 ?_
      refine V_goto (tgt := 36) X dX1_count_20 (by decide) ?_
      have hr := Option.some.inj h
      subst hr
      exact V_end_i hX rfl dX1_count_36
  · refine V_aload_n X dX1_count_4 0 rfl ?_
    refine V_get (ci := 0) (N := 18) (C := RX1) (T := TX1) (o := 0) (j := 17) X rfl in_X1 (by decide) (hW.at 0 rfl) (by decide) q494 (fv_0 rfl) dX1_count_5 ?_
    refine V_goto (tgt := 36) X dX1_count_8 (by decide) ?_
    have hr := Option.some.inj h
    subst hr
    exact V_end_i hX rfl dX1_count_36
set_option maxHeartbeats 4000000 in
theorem con_xSight_known (K : Nat → Nat) (hW : WFK K) (o : Nat) (hK0 : K o = 5) (g : GS) (l1 : Int) (r : Int) (h : xSight_known o g l1 = some r) : Con yX5_known cX5_known 2 (some .int) 1 12 K (fun b => [.ref (b + o), vI l1]) g (fun _ => some (vI r)) g := by
  refine Con.of RX5 (by decide) rfl (fun b => Nat.le_of_ble_eq_true rfl) (fun x sz hX => ?_)
  have X := hX.1
  unfold xSight_known at h
  show V x 2 K 0 0 sz g 0 [(0, .ref (xb x + o)), (1, vI l1)] []
  refine V_iload_n X dX5_known_0 1 rfl ?_
  by_cases hz0 : w32 l1 = 0
  · rw [if_pos hz0] at h
    refine V_tswIn (tgt := 36) 0 X dX5_known_1 hz0 (by decide) (by decide) rfl (by decide) ?_
    refine V_aload_n X dX5_known_36 0 rfl ?_
    refine V_get (ci := 4) (N := 6) (C := RX5) (T := TX5) (o := o) (j := 0) X rfl in_X5 (by decide) hK0 (by decide) q186 (fv_0 rfl) dX5_known_37 ?_
    have hr := Option.some.inj h
    subst hr
    exact V_end_i hX rfl dX5_known_40
  · rw [if_neg hz0] at h
    by_cases hz1 : w32 l1 = 1
    · rw [if_pos hz1] at h
      refine V_tswIn (tgt := 41) 1 X dX5_known_1 hz1 (by decide) (by decide) rfl (by decide) ?_
      refine V_aload_n X dX5_known_41 0 rfl ?_
      refine V_get (ci := 4) (N := 6) (C := RX5) (T := TX5) (o := o) (j := 1) X rfl in_X5 (by decide) hK0 (by decide) q189 (fv_0 rfl) dX5_known_42 ?_
      have hr := Option.some.inj h
      subst hr
      exact V_end_i hX rfl dX5_known_45
    · rw [if_neg hz1] at h
      by_cases hz2 : w32 l1 = 2
      · rw [if_pos hz2] at h
        refine V_tswIn (tgt := 46) 2 X dX5_known_1 hz2 (by decide) (by decide) rfl (by decide) ?_
        refine V_aload_n X dX5_known_46 0 rfl ?_
        refine V_get (ci := 4) (N := 6) (C := RX5) (T := TX5) (o := o) (j := 2) X rfl in_X5 (by decide) hK0 (by decide) q192 (fv_0 rfl) dX5_known_47 ?_
        have hr := Option.some.inj h
        subst hr
        exact V_end_i hX rfl dX5_known_50
      · rw [if_neg hz2] at h
        by_cases hz3 : w32 l1 = 3
        · rw [if_pos hz3] at h
          refine V_tswIn (tgt := 51) 3 X dX5_known_1 hz3 (by decide) (by decide) rfl (by decide) ?_
          refine V_aload_n X dX5_known_51 0 rfl ?_
          refine V_get (ci := 4) (N := 6) (C := RX5) (T := TX5) (o := o) (j := 3) X rfl in_X5 (by decide) hK0 (by decide) q195 (fv_0 rfl) dX5_known_52 ?_
          have hr := Option.some.inj h
          subst hr
          exact V_end_i hX rfl dX5_known_55
        · rw [if_neg hz3] at h
          by_cases hz4 : w32 l1 = 4
          · rw [if_pos hz4] at h
            refine V_tswIn (tgt := 56) 4 X dX5_known_1 hz4 (by decide) (by decide) rfl (by decide) ?_
            refine V_aload_n X dX5_known_56 0 rfl ?_
            refine V_get (ci := 4) (N := 6) (C := RX5) (T := TX5) (o := o) (j := 4) X rfl in_X5 (by decide) hK0 (by decide) q198 (fv_0 rfl) dX5_known_57 ?_
            have hr := Option.some.inj h
            subst hr
            exact V_end_i hX rfl dX5_known_60
          · rw [if_neg hz4] at h
            refine V_tswOut (tgt := 61) X dX5_known_1 (by omega) (by decide) ?_
            refine V_aload_n X dX5_known_61 0 rfl ?_
            refine V_get (ci := 4) (N := 6) (C := RX5) (T := TX5) (o := o) (j := 5) X rfl in_X5 (by decide) hK0 (by decide) q201 (fv_0 rfl) dX5_known_62 ?_
            have hr := Option.some.inj h
            subst hr
            exact V_end_i hX rfl dX5_known_65
set_option maxHeartbeats 4000000 in
theorem con_xAmount_on (K : Nat → Nat) (hW : WFK K) (o : Nat) (hK0 : K o = 16) (l1 : Nat) (hK1 : K l1 = 5) (g : GS) (r : Int) (h : xAmount_on o l1 g = some r) : Con yX16_on cX16_on 2 (some .int) 1 12 K (fun b => [.ref (b + o), .ref (b + l1)]) g (fun _ => some (vI r)) g := by
  refine Con.of RX16 (by decide) rfl (fun b => Nat.le_of_ble_eq_true rfl) (fun x sz hX => ?_)
  have X := hX.1
  unfold xAmount_on at h
  show V x 2 K 0 0 sz g 0 [(0, .ref (xb x + o)), (1, .ref (xb x + l1))] []
  refine V_aload_n X dX16_on_0 0 rfl ?_
  refine V_get (ci := 15) (N := 1) (C := RX16) (T := TX16) (o := o) (j := 0) X rfl in_X16 (by decide) hK0 (by decide) q1072 (fv_0 rfl) dX16_on_1 ?_
  have hr := Option.some.inj h
  subst hr
  exact V_end_i hX rfl dX16_on_4
set_option maxHeartbeats 4000000 in
theorem con_xKnown_on (K : Nat → Nat) (hW : WFK K) (o : Nat) (hK0 : K o = 17) (l1 : Nat) (hK1 : K l1 = 5) (g : GS) (r : Int) (h : xKnown_on o l1 g = some r) : Con yX17_on cX17_on 2 (some .int) 2 33 K (fun b => [.ref (b + o), .ref (b + l1)]) g (fun _ => some (vI r)) g := by
  refine Con.of RX17 (by decide) rfl (fun b => Nat.le_of_ble_eq_true rfl) (fun x sz hX => ?_)
  have X := hX.1
  unfold xKnown_on at h
  show V x 2 K 0 0 sz g 0 [(0, .ref (xb x + o)), (1, .ref (xb x + l1))] []
  refine V_aload_n X dX17_on_0 1 rfl ?_
  refine V_aload_n X dX17_on_1 0 rfl ?_
  refine V_get (ci := 16) (N := 1) (C := RX17) (T := TX17) (o := o) (j := 0) X rfl in_X17 (by decide) hK0 (by decide) q1082 (fv_0 rfl) dX17_on_2 ?_
  obtain ⟨c5, hc5, h⟩ := bind_some_eq h
  refine V_callV (ci := 4) (N := 6) (T := TX5) (As := [vI (gI g 1600 o)]) (rest := []) (s1 := [vI c5]) (o := l1) X (con_xSight_known K hW l1 hK1 g (gI g 1600 o) c5 hc5) gwX17_known_13 hdV_X5_known (by decide) rfl (by decide) hK1 rfl rfl (Nat.le_of_ble_eq_true rfl) ⟨Nat.zero_le _, Nat.zero_le _⟩ dX17_on_5 rfl rfl ?_
  have hr := Option.some.inj h
  subst hr
  exact V_end_i hX rfl dX17_on_8
