set_option maxRecDepth 100000
theorem hdV_X2_lasts : yX2_lasts.cls = RX2 ∧ yX2_lasts.cls ≠ "java/lang/invoke/MethodHandle" ∧ yX2_lasts.cls ≠ "java/lang/invoke/VarHandle" ∧ (parseMethodDescriptor yX2_lasts.desc).map (fun d => d.parameters.length) = some 1 := by decide +kernel
theorem gwX4_lasts_149 : GoodIn lw_all (wsV RX4 149 RX2 yX2_lasts (ws_ yX2_lasts cX2_lasts 2 (some .int))) := lw_V q590 q591 q592 q97 q593
theorem gwX4_strongOf_131 : GoodIn lw_all (wsV RX4 131 RX9 yX9_strongOf (ws_ yX9_strongOf cX9_strongOf 4 (some .int))) := lw_V q585 q571 q572 q104 q573
theorem gwX4_isRain_138 : GoodIn lw_all (wsV RX4 138 RX9 yX9_isRain (ws_ yX9_isRain cX9_isRain 3 (some .boolean))) := lw_V q586 q587 q588 q104 q589
theorem hdV_X4_works : yX4_works.cls = RX4 ∧ yX4_works.cls ≠ "java/lang/invoke/MethodHandle" ∧ yX4_works.cls ≠ "java/lang/invoke/VarHandle" ∧ (parseMethodDescriptor yX4_works.desc).map (fun d => d.parameters.length) = some 4 := by decide +kernel
theorem gwX4_works_117 : GoodIn lw_all (wsV RX4 117 RX4 yX4_works (ws_ yX4_works cX4_works 5 none)) := lw_V q638 q640 qs4 q99 q641
theorem hdV_X9_rainIn : yX9_rainIn.cls = RX9 ∧ yX9_rainIn.cls ≠ "java/lang/invoke/MethodHandle" ∧ yX9_rainIn.cls ≠ "java/lang/invoke/VarHandle" ∧ (parseMethodDescriptor yX9_rainIn.desc).map (fun d => d.parameters.length) = some 2 := by decide +kernel
theorem gwX4_rainIn_114 : GoodIn lw_all (wsV RX4 114 RX9 yX9_rainIn (ws_ yX9_rainIn cX9_rainIn 5 (some .int))) := lw_V q633 q634 q635 q104 q636
theorem hdV_X4_draw : yX4_draw.cls = RX4 ∧ yX4_draw.cls ≠ "java/lang/invoke/MethodHandle" ∧ yX4_draw.cls ≠ "java/lang/invoke/VarHandle" ∧ (parseMethodDescriptor yX4_draw.desc).map (fun d => d.parameters.length) = some 0 := by decide +kernel
theorem gwX4_draw_107 : GoodIn lw_all (wsV RX4 107 RX4 yX4_draw (ws_ yX4_draw cX4_draw 1 (some .int))) := lw_V q628 q630 qs3 q99 q631
theorem hdV_X9_isDone : yX9_isDone.cls = RX9 ∧ yX9_isDone.cls ≠ "java/lang/invoke/MethodHandle" ∧ yX9_isDone.cls ≠ "java/lang/invoke/VarHandle" ∧ (parseMethodDescriptor yX9_isDone.desc).map (fun d => d.parameters.length) = some 2 := by decide +kernel
theorem gwX4_isDone_86 : GoodIn lw_all (wsV RX4 86 RX9 yX9_isDone (ws_ yX9_isDone cX9_isDone 3 (some .boolean))) := lw_V q560 q561 q562 q104 q563
theorem hdV_X4_isReady : yX4_isReady.cls = RX4 ∧ yX4_isReady.cls ≠ "java/lang/invoke/MethodHandle" ∧ yX4_isReady.cls ≠ "java/lang/invoke/VarHandle" ∧ (parseMethodDescriptor yX4_isReady.desc).map (fun d => d.parameters.length) = some 1 := by decide +kernel
theorem gwX4_isReady_90 : GoodIn lw_all (wsV RX4 90 RX4 yX4_isReady (ws_ yX4_isReady cX4_isReady 3 (some .boolean))) := lw_V q574 q576 qs1 q99 q577
theorem hdV_X4_lasts : yX4_lasts.cls = RX4 ∧ yX4_lasts.cls ≠ "java/lang/invoke/MethodHandle" ∧ yX4_lasts.cls ≠ "java/lang/invoke/VarHandle" ∧ (parseMethodDescriptor yX4_lasts.desc).map (fun d => d.parameters.length) = some 3 := by decide +kernel
theorem gwX4_lasts_103 : GoodIn lw_all (wsV RX4 103 RX4 yX4_lasts (ws_ yX4_lasts cX4_lasts 4 (some .int))) := lw_V q581 q583 qs2 q99 q584
theorem hdV_X4_comes : yX4_comes.cls = RX4 ∧ yX4_comes.cls ≠ "java/lang/invoke/MethodHandle" ∧ yX4_comes.cls ≠ "java/lang/invoke/VarHandle" ∧ (parseMethodDescriptor yX4_comes.desc).map (fun d => d.parameters.length) = some 3 := by decide +kernel
theorem gwX4_comes_79 : GoodIn lw_all (wsV RX4 79 RX4 yX4_comes (ws_ yX4_comes cX4_comes 8 (some .boolean))) := lw_V q556 q557 q558 q99 q559
theorem hdV_X4_starts : yX4_starts.cls = RX4 ∧ yX4_starts.cls ≠ "java/lang/invoke/MethodHandle" ∧ yX4_starts.cls ≠ "java/lang/invoke/VarHandle" ∧ (parseMethodDescriptor yX4_starts.desc).map (fun d => d.parameters.length) = some 1 := by decide +kernel
theorem gwX1_starts_265 : GoodIn lw_all (wsV RX1 265 RX4 yX4_starts (ws_ yX4_starts cX4_starts 3 (some (.object "RainWheel$Watch")))) := lw_V q548 q549 q550 q99 q551
theorem hdV_X4_goes : yX4_goes.cls = RX4 ∧ yX4_goes.cls ≠ "java/lang/invoke/MethodHandle" ∧ yX4_goes.cls ≠ "java/lang/invoke/VarHandle" ∧ (parseMethodDescriptor yX4_goes.desc).map (fun d => d.parameters.length) = some 1 := by decide +kernel
theorem gwX1_goes_269 : GoodIn lw_all (wsV RX1 269 RX4 yX4_goes (ws_ yX4_goes cX4_goes 3 (some (.object "RainWheel$Watch")))) := lw_V q552 q553 q554 q99 q555
theorem hdV_X1_gone : yX1_gone.cls = RX1 ∧ yX1_gone.cls ≠ "java/lang/invoke/MethodHandle" ∧ yX1_gone.cls ≠ "java/lang/invoke/VarHandle" ∧ (parseMethodDescriptor yX1_gone.desc).map (fun d => d.parameters.length) = some 0 := by decide +kernel
theorem gwX1_gone_276 : GoodIn lw_all (wsV RX1 276 RX1 yX1_gone (ws_ yX1_gone cX1_gone 1 (some (.object "RainWheel$Watch")))) := lw_V q544 q546 qs0 q96 q547
theorem hdV_X4_longer : yX4_longer.cls = RX4 ∧ yX4_longer.cls ≠ "java/lang/invoke/MethodHandle" ∧ yX4_longer.cls ≠ "java/lang/invoke/VarHandle" ∧ (parseMethodDescriptor yX4_longer.desc).map (fun d => d.parameters.length) = some 2 := by decide +kernel
theorem gwX1_longer_304 : GoodIn lw_all (wsV RX1 304 RX4 yX4_longer (ws_ yX4_longer cX4_longer 3 (some (.object "RainWheel$Watch")))) := lw_V q658 q659 q660 q99 q661
theorem hdV_X3_lineOf : yX3_lineOf.cls = RX3 ∧ yX3_lineOf.cls ≠ "java/lang/invoke/MethodHandle" ∧ yX3_lineOf.cls ≠ "java/lang/invoke/VarHandle" ∧ (parseMethodDescriptor yX3_lineOf.desc).map (fun d => d.parameters.length) = some 1 := by decide +kernel
theorem gwX1_lineOf_301 : GoodIn lw_all (wsV RX1 301 RX3 yX3_lineOf (ws_ yX3_lineOf cX3_lineOf 3 (some .int))) := lw_V q654 q655 q656 q98 q657
theorem hdV_X1_slackOf : yX1_slackOf.cls = RX1 ∧ yX1_slackOf.cls ≠ "java/lang/invoke/MethodHandle" ∧ yX1_slackOf.cls ≠ "java/lang/invoke/VarHandle" ∧ (parseMethodDescriptor yX1_slackOf.desc).map (fun d => d.parameters.length) = some 1 := by decide +kernel
theorem gwX1_slackOf_308 : GoodIn lw_all (wsV RX1 308 RX1 yX1_slackOf (ws_ yX1_slackOf cX1_slackOf 5 (some .int))) := lw_V q650 q652 qs5 q96 q653
theorem hdV_X4_as : yX4_as.cls = RX4 ∧ yX4_as.cls ≠ "java/lang/invoke/MethodHandle" ∧ yX4_as.cls ≠ "java/lang/invoke/VarHandle" ∧ (parseMethodDescriptor yX4_as.desc).map (fun d => d.parameters.length) = some 1 := by decide +kernel
theorem gwX6_as_67 : GoodIn lw_all (wsV RX6 67 RX4 yX4_as (ws_ yX4_as cX4_as 2 (some (.object "RainWheel$Watch")))) := lw_V q1296 q1297 q1298 q99 q1299
theorem gwX6_comes_71 : GoodIn lw_all (wsV RX6 71 RX4 yX4_comes (ws_ yX4_comes cX4_comes 8 (some .boolean))) := lw_V q1301 q557 q558 q99 q559
theorem hdV_X6_tries : yX6_tries.cls = RX6 ∧ yX6_tries.cls ≠ "java/lang/invoke/MethodHandle" ∧ yX6_tries.cls ≠ "java/lang/invoke/VarHandle" ∧ (parseMethodDescriptor yX6_tries.desc).map (fun d => d.parameters.length) = some 3 := by decide +kernel
theorem gwX6_tries_41 : GoodIn lw_all (wsV RX6 41 RX6 yX6_tries (ws_ yX6_tries cX6_tries 7 none)) := lw_V q1287 q1289 qs26 q101 q1290
theorem hdV_X4_allWet : yX4_allWet.cls = RX4 ∧ yX4_allWet.cls ≠ "java/lang/invoke/MethodHandle" ∧ yX4_allWet.cls ≠ "java/lang/invoke/VarHandle" ∧ (parseMethodDescriptor yX4_allWet.desc).map (fun d => d.parameters.length) = some 0 := by decide +kernel
theorem gwX6_allWet_51 : GoodIn lw_all (wsV RX6 51 RX4 yX4_allWet (ws_ yX4_allWet cX4_allWet 3 (some .int))) := lw_V q1291 q1292 q1293 q99 q1294
theorem gwX6_starts_37 : GoodIn lw_all (wsV RX6 37 RX4 yX4_starts (ws_ yX4_starts cX4_starts 3 (some (.object "RainWheel$Watch")))) := lw_V q1286 q549 q550 q99 q551
theorem hdV_X4_losing : yX4_losing.cls = RX4 ∧ yX4_losing.cls ≠ "java/lang/invoke/MethodHandle" ∧ yX4_losing.cls ≠ "java/lang/invoke/VarHandle" ∧ (parseMethodDescriptor yX4_losing.desc).map (fun d => d.parameters.length) = some 1 := by decide +kernel
theorem gwX1_losing_413 : GoodIn lw_all (wsV RX1 413 RX4 yX4_losing (ws_ yX4_losing cX4_losing 2 (some (.object "RainWheel$Watch")))) := lw_V q1478 q1479 q1480 q99 q1481
set_option maxHeartbeats 4000000 in
theorem con_xWatch_lasts (K : Nat → Nat) (hW : WFK K) (N : Nat) (o : Nat) (hK0 : K o = 4) (g : GS) (l1 : Int) (l2 : Int) (l3 : Int) (r : (Int × GS)) (h : xWatch_lasts N K o g l1 l2 l3 = some r) : Con yX4_lasts cX4_lasts 4 (some .int) 207 4941 K (fun b => [.ref (b + o), vI l1, vI l2, vI l3]) g (fun _ => some (vI r.1)) r.2 := by
  refine Con.of RX4 (by decide) rfl (fun b => Nat.le_of_ble_eq_true rfl) (fun x sz hX => ?_)
  have X := hX.1
  have J87 : ∀ (g : GS) (l1 : Int) (l3 : Int) (s0 : Int), xWatch_lasts_j87 N K o g l1 l3 s0 = some r → V x 4 K 0 0 sz g 87 [(0, .ref (xb x + o)), (1, vI l1), (3, vI l3)] [vI s0, .ref (xb x + (o + 7))] := by
    intro g l1 l3 s0 h
    unfold xWatch_lasts_j87 at h
    refine V_putN (ty := .int) (ci := 4) (N := 6) (C := RX5) (T := TX5) (o := (o + 7)) (j := 3) (a := s0) X rfl in_X5 tyX5 tyX5_ok nmX5 (by decide) (hW.blk (by decide) hK0 7 (by decide) rfl) (by decide) rfl pfd_I rfl rfl q196 (by rw [fv_0 rfl, gI_sI, if_pos ⟨rfl, rfl⟩]) dX4_lasts_87 ?_
    refine V_aload_n X dX4_lasts_90 0 rfl ?_
    refine V_get (ci := 3) (N := 15) (C := RX4) (T := TX4) (o := o) (j := 6) X rfl in_X4 (by decide) hK0 (by decide) q227 (fv_1 (i := (o + 7)) rfl rfl) dX4_lasts_91 ?_
    refine V_iload_n X dX4_lasts_94 2 rfl ?_
    refine V_putN (ty := .int) (ci := 4) (N := 6) (C := RX5) (T := TX5) (o := (o + 7)) (j := 4) (a := l3) X rfl in_X5 tyX5 tyX5_ok nmX5 (by decide) (hW.blk (by decide) hK0 7 (by decide) rfl) (by decide) rfl pfd_I rfl rfl q199 (by rw [fv_0 rfl, gI_sI, if_pos ⟨rfl, rfl⟩]) dX4_lasts_95 ?_
    refine V_aload_n X dX4_lasts_98 0 rfl ?_
    refine V_get (ci := 3) (N := 15) (C := RX4) (T := TX4) (o := o) (j := 6) X rfl in_X4 (by decide) hK0 (by decide) q227 (fv_1 (i := (o + 7)) rfl rfl) dX4_lasts_99 ?_
    refine V_aload_n X dX4_lasts_102 0 rfl ?_
    obtain ⟨i103, hvi103, hki103, h⟩ := rdR_some h
    refine V_get (ci := 3) (N := 15) (C := RX4) (T := TX4) (o := o) (j := 8) X rfl in_X4 (by decide) hK0 (by decide) q229 (fv_3i rfl hvi103) dX4_lasts_103 ?_
    refine V_getN (ci := 8) (N := 24) (C := RX9) (T := TX9) (o := i103) (j := 2) X rfl in_X9 (by decide) hki103 (by decide) q364 (fv_1 (i := (i103 + 3)) rfl rfl) dX4_lasts_106 ?_
    refine V_iload_n X dX4_lasts_109 1 rfl ?_
    refine V_iald X (o := (i103 + 3)) (n := 12) (hW.blk (by decide) hki103 3 (by decide) rfl) (by decide) dX4_lasts_110 h (fun v110 h => ?_)
    refine V_putN (ty := .int) (ci := 4) (N := 6) (C := RX5) (T := TX5) (o := (o + 7)) (j := 5) (a := v110) X rfl in_X5 tyX5 tyX5_ok nmX5 (by decide) (hW.blk (by decide) hK0 7 (by decide) rfl) (by decide) rfl pfd_I rfl rfl q202 (by rw [fv_0 rfl, gI_sI, if_pos ⟨rfl, rfl⟩]) dX4_lasts_111 ?_
    refine V_aload_n X dX4_lasts_114 0 rfl ?_
    refine V_get (ci := 3) (N := 15) (C := RX4) (T := TX4) (o := o) (j := 7) X rfl in_X4 (by decide) hK0 (by decide) q228 (fv_2 (i := 2) rfl rfl) dX4_lasts_115 ?_
    refine V_aload_n X dX4_lasts_118 0 rfl ?_
    refine V_get (ci := 3) (N := 15) (C := RX4) (T := TX4) (o := o) (j := 6) X rfl in_X4 (by decide) hK0 (by decide) q227 (fv_1 (i := (o + 7)) rfl rfl) dX4_lasts_119 ?_
    obtain ⟨c122, hc122, h⟩ := bind_some_eq h
    refine V_callV (ci := 1) (N := 1) (T := TX2) (As := [.ref (xb x + (o + 7))]) (rest := []) (s1 := [vI c122]) (o := 2) X (con_xLaw_lasts K hW (o + 7) (hW.blk (by decide) hK0 7 (by decide) rfl) (sI (sI (sI g 403 (o + 7) s0) 404 (o + 7) l3) 405 (o + 7) v110) c122 hc122) gwX4_lasts_149 hdV_X2_lasts (by decide) rfl (by decide) (hW.at 2 rfl) rfl rfl (Nat.le_of_ble_eq_true rfl) ⟨Nat.zero_le _, Nat.zero_le _⟩ dX4_lasts_122 rfl rfl ?_
    have hr := Option.some.inj h
    subst hr
    exact V_end_i hX rfl dX4_lasts_125
  have J86 : ∀ (g : GS) (l1 : Int) (l3 : Int), xWatch_lasts_j86 N K o g l1 l3 = some r → V x 4 K 0 0 sz g 86 [(0, .ref (xb x + o)), (1, vI l1), (3, vI l3)] [.ref (xb x + (o + 7))] := by
    intro g l1 l3 h
    unfold xWatch_lasts_j86 at h
    refine V_iconst X dX4_lasts_86 ?_
    exact V_sub [0, 1, 2] rfl (J87 _ _ _ _ h)
  unfold xWatch_lasts at h
  show V x 4 K 0 0 sz g 0 [(0, .ref (xb x + o)), (1, vI l1), (2, vI l2), (3, vI l3)] []
  refine V_aload_n X dX4_lasts_0 0 rfl ?_
  refine V_get (ci := 3) (N := 15) (C := RX4) (T := TX4) (o := o) (j := 6) X rfl in_X4 (by decide) hK0 (by decide) q227 (fv_1 (i := (o + 7)) rfl rfl) dX4_lasts_1 ?_
  refine V_aload_n X dX4_lasts_4 0 rfl ?_
  obtain ⟨i5, hvi5, hki5, h⟩ := rdR_some h
  refine V_get (ci := 3) (N := 15) (C := RX4) (T := TX4) (o := o) (j := 8) X rfl in_X4 (by decide) hK0 (by decide) q229 (fv_3i rfl hvi5) dX4_lasts_5 ?_
  refine V_getN (ci := 8) (N := 24) (C := RX9) (T := TX9) (o := i5) (j := 1) X rfl in_X9 (by decide) hki5 (by decide) q360 (fv_1 (i := (i5 + 2)) rfl rfl) dX4_lasts_8 ?_
  refine V_iload_n X dX4_lasts_11 1 rfl ?_
  refine V_iald X (o := (i5 + 2)) (n := 12) (hW.blk (by decide) hki5 2 (by decide) rfl) (by decide) dX4_lasts_12 h (fun v12 h => ?_)
  refine V_putN (ty := .int) (ci := 4) (N := 6) (C := RX5) (T := TX5) (o := (o + 7)) (j := 0) (a := v12) X rfl in_X5 tyX5 tyX5_ok nmX5 (by decide) (hW.blk (by decide) hK0 7 (by decide) rfl) (by decide) rfl pfd_I rfl rfl q187 (by rw [fv_0 rfl, gI_sI, if_pos ⟨rfl, rfl⟩]) dX4_lasts_13 ?_
  refine V_aload_n X dX4_lasts_16 0 rfl ?_
  refine V_get (ci := 3) (N := 15) (C := RX4) (T := TX4) (o := o) (j := 6) X rfl in_X4 (by decide) hK0 (by decide) q227 (fv_1 (i := (o + 7)) rfl rfl) dX4_lasts_17 ?_
  refine V_aload_n X dX4_lasts_20 0 rfl ?_
  obtain ⟨i21, hvi21, hki21, h⟩ := rdR_some h
  refine V_get (ci := 3) (N := 15) (C := RX4) (T := TX4) (o := o) (j := 8) X rfl in_X4 (by decide) hK0 (by decide) q229 (fv_3i rfl hvi21) dX4_lasts_21 ?_
  refine V_getN (ci := 8) (N := 24) (C := RX9) (T := TX9) (o := i21) (j := 3) X rfl in_X9 (by decide) hki21 (by decide) q368 (fv_1 (i := (i21 + 4)) rfl rfl) dX4_lasts_24 ?_
  refine V_iload_n X dX4_lasts_27 1 rfl ?_
  refine V_iald X (o := (i21 + 4)) (n := 12) (hW.blk (by decide) hki21 4 (by decide) rfl) (by decide) dX4_lasts_28 h (fun v28 h => ?_)
  refine V_putN (ty := .int) (ci := 4) (N := 6) (C := RX5) (T := TX5) (o := (o + 7)) (j := 1) (a := v28) X rfl in_X5 tyX5 tyX5_ok nmX5 (by decide) (hW.blk (by decide) hK0 7 (by decide) rfl) (by decide) rfl pfd_I rfl rfl q190 (by rw [fv_0 rfl, gI_sI, if_pos ⟨rfl, rfl⟩]) dX4_lasts_29 ?_
  refine V_aload_n X dX4_lasts_32 0 rfl ?_
  refine V_get (ci := 3) (N := 15) (C := RX4) (T := TX4) (o := o) (j := 6) X rfl in_X4 (by decide) hK0 (by decide) q227 (fv_1 (i := (o + 7)) rfl rfl) dX4_lasts_33 ?_
  refine V_aload_n X dX4_lasts_36 0 rfl ?_
  obtain ⟨i37, hvi37, hki37, h⟩ := rdR_some h
  refine V_get (ci := 3) (N := 15) (C := RX4) (T := TX4) (o := o) (j := 8) X rfl in_X4 (by decide) hK0 (by decide) q229 (fv_3i rfl hvi37) dX4_lasts_37 ?_
  refine V_iload_n X dX4_lasts_40 2 rfl ?_
  obtain ⟨c41, hc41, h⟩ := bind_some_eq h
  refine V_callV (ci := 8) (N := 24) (T := TX9) (As := [vI l2]) (rest := [.ref (xb x + (o + 7))]) (s1 := [vI c41, .ref (xb x + (o + 7))]) (o := i37) X (con_xRoad_strongOf K hW N i37 hki37 (sI (sI g 400 (o + 7) v12) 401 (o + 7) v28) l2 c41 hc41) gwX4_strongOf_131 hdV_X9_strongOf (by decide) rfl (by decide) hki37 rfl rfl (Nat.le_of_ble_eq_true rfl) ⟨Nat.zero_le _, Nat.zero_le _⟩ dX4_lasts_41 rfl rfl ?_
  refine V_putN (ty := .int) (ci := 4) (N := 6) (C := RX5) (T := TX5) (o := (o + 7)) (j := 2) (a := c41) X rfl in_X5 tyX5 tyX5_ok nmX5 (by decide) (hW.blk (by decide) hK0 7 (by decide) rfl) (by decide) rfl pfd_I rfl rfl q193 (by rw [fv_0 rfl, gI_sI, if_pos ⟨rfl, rfl⟩]) dX4_lasts_44 ?_
  refine V_aload_n X dX4_lasts_47 0 rfl ?_
  refine V_get (ci := 3) (N := 15) (C := RX4) (T := TX4) (o := o) (j := 6) X rfl in_X4 (by decide) hK0 (by decide) q227 (fv_1 (i := (o + 7)) rfl rfl) dX4_lasts_48 ?_
  refine V_aload_n X dX4_lasts_51 0 rfl ?_
  obtain ⟨i52, hvi52, hki52, h⟩ := rdR_some h
  refine V_get (ci := 3) (N := 15) (C := RX4) (T := TX4) (o := o) (j := 8) X rfl in_X4 (by decide) hK0 (by decide) q229 (fv_3i rfl hvi52) dX4_lasts_52 ?_
  refine V_getN (ci := 8) (N := 24) (C := RX9) (T := TX9) (o := i52) (j := 2) X rfl in_X9 (by decide) hki52 (by decide) q364 (fv_1 (i := (i52 + 3)) rfl rfl) dX4_lasts_55 ?_
  refine V_iload_n X dX4_lasts_58 1 rfl ?_
  refine V_iald X (o := (i52 + 3)) (n := 12) (hW.blk (by decide) hki52 3 (by decide) rfl) (by decide) dX4_lasts_59 h (fun v59 h => ?_)
  refine V_iconst X dX4_lasts_60 ?_
  refine V_icmp_ne (tgt := 86) X dX4_lasts_61 (by decide) h (fun h => ?_) (fun h => ?_)
  · exact V_sub [0, 1, 3] rfl (J86 _ _ _ h)
  · refine V_iload_n X dX4_lasts_64 3 rfl ?_
    refine V_sipush X dX4_lasts_65 (by decide) ?_
    refine V_icmp_gt (tgt := 86) X dX4_lasts_68 (by decide) h (fun h => ?_) (fun h => ?_)
    · exact V_sub [0, 1, 3] rfl (J86 _ _ _ h)
    · refine V_aload_n X dX4_lasts_71 0 rfl ?_
      obtain ⟨i72, hvi72, hki72, h⟩ := rdR_some h
      refine V_get (ci := 3) (N := 15) (C := RX4) (T := TX4) (o := o) (j := 8) X rfl in_X4 (by decide) hK0 (by decide) q229 (fv_3i rfl hvi72) dX4_lasts_72 ?_
      refine V_iload_n X dX4_lasts_75 3 rfl ?_
      obtain ⟨c76, hc76, h⟩ := bind_some_eq h
      refine V_callV (ci := 8) (N := 24) (T := TX9) (As := [vI l3]) (rest := [.ref (xb x + (o + 7))]) (s1 := [vI c76, .ref (xb x + (o + 7))]) (o := i72) X (con_xRoad_isRain K hW N i72 hki72 (sI (sI (sI g 400 (o + 7) v12) 401 (o + 7) v28) 402 (o + 7) c41) l3 c76 hc76) gwX4_isRain_138 hdV_X9_isRain (by decide) rfl (by decide) hki72 rfl rfl (Nat.le_of_ble_eq_true rfl) ⟨Nat.zero_le _, Nat.zero_le _⟩ dX4_lasts_76 rfl rfl ?_
      refine V_if_eq (tgt := 86) X dX4_lasts_79 (by decide) h (fun h => ?_) (fun h => ?_)
      · exact V_sub [0, 1, 3] rfl (J86 _ _ _ h)
      · refine V_iconst X dX4_lasts_82 ?_
        refine V_goto (tgt := 87) X dX4_lasts_83 (by decide) ?_
        exact V_sub [0, 1, 3] rfl (J87 _ _ _ _ h)
set_option maxHeartbeats 4000000 in
theorem con_xWatch_comes (K : Nat → Nat) (hW : WFK K) (N : Nat) (o : Nat) (hK0 : K o = 4) (g : GS) (l1 : Int) (l2 : Int) (l3 : Int) (r : (Int × GS)) (h : xWatch_comes N K o g l1 l2 l3 = some r) : Con yX4_comes cX4_comes 8 (some .boolean) 208 4964 K (fun b => [.ref (b + o), vI l1, vI l2, vI l3]) g (fun _ => some (vI r.1)) r.2 := by
  refine Con.of RX4 (by decide) rfl (fun b => Nat.le_of_ble_eq_true rfl) (fun x sz hX => ?_)
  have X := hX.1
  have LL277 : ∀ (l1 : Int) (l3 : Int) (l5 : Int) (l6 : Int) (n : Nat) (s : (GS × Int)) (e : (Int × GS)), loopN (fun s => xWatch_comes_b277 N K o l1 l3 l5 l6 s.1 s.2) n s = some e → (e = r) → V x 8 K 0 0 sz s.1 277 [(0, .ref (xb x + o)), (1, vI l1), (3, vI l3), (5, vI l5), (6, vI l6), (7, vI s.2)] [] := by
    intro l1 l3 l5 l6 n s e
    refine loop_walk (P := fun s => V x 8 K 0 0 sz s.1 277 [(0, .ref (xb x + o)), (1, vI l1), (3, vI l3), (5, vI l5), (6, vI l6), (7, vI s.2)] []) (E := fun e => e = r) ?_ n s e
    clear e s n
    rintro ⟨g, l7⟩ q277 h hc277 he277
    replace h : xWatch_comes_b277 N K o l1 l3 l5 l6 g l7 = some q277 := h
    unfold xWatch_comes_b277 at h
    show V x 8 K 0 0 sz g 277 [(0, .ref (xb x + o)), (1, vI l1), (3, vI l3), (5, vI l5), (6, vI l6), (7, vI l7)] []
    refine V_iload X dX4_comes_277 5 rfl ?_
    refine V_aload_n X dX4_comes_279 0 rfl ?_
    obtain ⟨i280, hvi280, hki280, h⟩ := rdR_some h
    refine V_get (ci := 3) (N := 15) (C := RX4) (T := TX4) (o := o) (j := 8) X rfl in_X4 (by decide) hK0 (by decide) q229 (fv_3i rfl hvi280) dX4_comes_280 ?_
    refine V_getN (ci := 8) (N := 24) (C := RX9) (T := TX9) (o := i280) (j := 13) X rfl in_X9 (by decide) hki280 (by decide) q400 (fv_0 rfl) dX4_comes_283 ?_
    refine V_icmp_ge (tgt := 321) X dX4_comes_286 (by decide) h (fun h => ?_) (fun h => ?_)
    · obtain ⟨e1, h, e1q⟩ := outR_some h
      replace h := h.trans (congrArg some (he277 _ e1q))
      refine V_iconst X dX4_comes_321 ?_
      have hr := Option.some.inj h
      subst hr
      exact V_end_z hX (Or.inr rfl) rfl dX4_comes_322
    · refine V_iload_n X dX4_comes_289 2 rfl ?_
      refine V_iload X dX4_comes_290 5 rfl ?_
      refine V_ishr X dX4_comes_292 ?_
      refine V_iconst X dX4_comes_293 ?_
      refine V_iand X dX4_comes_294 ?_
      refine V_iconst X dX4_comes_295 ?_
      refine V_icmp_ne (tgt := 315) X dX4_comes_296 (by decide) h (fun h => ?_) (fun h => ?_)
      · refine V_iinc X dX4_comes_315 5 rfl (by decide) (L' := [(7, vI (l7 + 1)), (0, .ref (xb x + o)), (1, vI l1), (3, vI l3), (5, vI l5), (6, vI l6)]) rfl ?_
        refine V_goto (tgt := 277) X dX4_comes_318 (by decide) ?_
        exact V_sub [1, 2, 3, 4, 5, 0] rfl (hc277 _ (Option.some.inj h).symm)
      · refine V_aload_n X dX4_comes_299 0 rfl ?_
        refine V_iload X dX4_comes_300 5 rfl ?_
        refine V_aload_n X dX4_comes_302 0 rfl ?_
        refine V_get (ci := 3) (N := 15) (C := RX4) (T := TX4) (o := o) (j := 1) X rfl in_X4 (by decide) hK0 (by decide) q219 (fv_1 (i := (o + 2)) rfl rfl) dX4_comes_303 ?_
        refine V_iload_n X dX4_comes_306 1 rfl ?_
        refine V_iald X (o := (o + 2)) (n := 12) (hW.blk (by decide) hK0 2 (by decide) rfl) (by decide) dX4_comes_307 h (fun v307 h => ?_)
        refine V_iload X dX4_comes_308 3 rfl ?_
        refine V_iload X dX4_comes_310 4 rfl ?_
        obtain ⟨c312, hc312, h⟩ := bind_some_eq h
        refine V_callV (ci := 3) (N := 15) (T := TX4) (As := [vI l7, vI v307, vI l5, vI l6]) (rest := []) (s1 := []) (o := o) X (con_xWatch_works K hW o hK0 g l7 v307 l5 l6 c312 hc312) gwX4_works_117 hdV_X4_works (by decide) rfl (by decide) hK0 rfl rfl (Nat.le_of_ble_eq_true rfl) ⟨Nat.zero_le _, Nat.zero_le _⟩ dX4_comes_312 rfl rfl ?_
        refine V_iinc X dX4_comes_315 5 rfl (by decide) (L' := [(7, vI (l7 + 1)), (0, .ref (xb x + o)), (1, vI l1), (3, vI l3), (5, vI l5), (6, vI l6)]) rfl ?_
        refine V_goto (tgt := 277) X dX4_comes_318 (by decide) ?_
        exact V_sub [1, 2, 3, 4, 5, 0] rfl (hc277 _ (Option.some.inj h).symm)
  have J272 : ∀ (g : GS) (l1 : Int) (l3 : Int) (l5 : Int) (s0 : Int), xWatch_comes_j272 N K o g l1 l3 l5 s0 = some r → V x 8 K 0 0 sz g 272 [(0, .ref (xb x + o)), (1, vI l1), (3, vI l3), (5, vI l5)] [vI s0] := by
    intro g l1 l3 l5 s0 h
    unfold xWatch_comes_j272 at h
    refine V_istore X dX4_comes_272 (by decide) (L' := [(6, vI s0), (0, .ref (xb x + o)), (1, vI l1), (3, vI l3), (5, vI l5)]) rfl ?_
    refine V_iconst X dX4_comes_274 ?_
    refine V_istore X dX4_comes_275 (by decide) (L' := [(7, vI 0), (6, vI s0), (0, .ref (xb x + o)), (1, vI l1), (3, vI l3), (5, vI l5)]) rfl ?_
    exact V_sub [2, 3, 4, 5, 1, 0] rfl (LL277 l1 l3 l5 s0 N (g, 0) _ h rfl)
  have J192 : ∀ (g : GS) (l1 : Int) (l2 : Int) (l3 : Int) (l4 : Int) (l5 : Int), xWatch_comes_j192 N K o g l1 l2 l3 l4 l5 = some r → V x 8 K 0 0 sz g 192 [(0, .ref (xb x + o)), (1, vI l1), (2, vI l2), (3, vI l3), (4, vI l4), (5, vI l5)] [] := by
    intro g l1 l2 l3 l4 l5 h
    unfold xWatch_comes_j192 at h
    refine V_aload_n X dX4_comes_192 0 rfl ?_
    refine V_get (ci := 3) (N := 15) (C := RX4) (T := TX4) (o := o) (j := 0) X rfl in_X4 (by decide) hK0 (by decide) q217 (fv_1 (i := (o + 1)) rfl rfl) dX4_comes_193 ?_
    refine V_iload_n X dX4_comes_196 1 rfl ?_
    refine V_iload X dX4_comes_197 4 rfl ?_
    refine V_iast X (o := (o + 1)) (n := 12) (hW.blk (by decide) hK0 1 (by decide) rfl) (by decide) dX4_comes_199 h (fun g199 h => ?_)
    refine V_aload_n X dX4_comes_200 0 rfl ?_
    refine V_get (ci := 3) (N := 15) (C := RX4) (T := TX4) (o := o) (j := 1) X rfl in_X4 (by decide) hK0 (by decide) q219 (fv_1 (i := (o + 2)) rfl rfl) dX4_comes_201 ?_
    refine V_iload_n X dX4_comes_204 1 rfl ?_
    refine V_iload X dX4_comes_205 4 rfl ?_
    refine V_iload X dX4_comes_207 5 rfl ?_
    refine V_iadd X dX4_comes_209 ?_
    refine V_iast X (o := (o + 2)) (n := 12) (hW.blk (by decide) hK0 2 (by decide) rfl) (by decide) dX4_comes_210 h (fun g210 h => ?_)
    refine V_aload_n X dX4_comes_211 0 rfl ?_
    refine V_get (ci := 3) (N := 15) (C := RX4) (T := TX4) (o := o) (j := 2) X rfl in_X4 (by decide) hK0 (by decide) q221 (fv_1 (i := (o + 3)) rfl rfl) dX4_comes_212 ?_
    refine V_iload_n X dX4_comes_215 2 rfl ?_
    refine V_aload_n X dX4_comes_216 0 rfl ?_
    refine V_get (ci := 3) (N := 15) (C := RX4) (T := TX4) (o := o) (j := 1) X rfl in_X4 (by decide) hK0 (by decide) q219 (fv_1 (i := (o + 2)) rfl rfl) dX4_comes_217 ?_
    refine V_iload_n X dX4_comes_220 1 rfl ?_
    refine V_iald X (o := (o + 2)) (n := 12) (hW.blk (by decide) hK0 2 (by decide) rfl) (by decide) dX4_comes_221 h (fun v221 h => ?_)
    refine V_iast X (o := (o + 3)) (n := 12) (hW.blk (by decide) hK0 3 (by decide) rfl) (by decide) dX4_comes_222 h (fun g222 h => ?_)
    refine V_aload_n X dX4_comes_223 0 rfl ?_
    refine V_aload_n X dX4_comes_224 0 rfl ?_
    refine V_get (ci := 3) (N := 15) (C := RX4) (T := TX4) (o := o) (j := 9) X rfl in_X4 (by decide) hK0 (by decide) q230 (fv_0 rfl) dX4_comes_225 ?_
    refine V_aload_n X dX4_comes_228 0 rfl ?_
    refine V_get (ci := 3) (N := 15) (C := RX4) (T := TX4) (o := o) (j := 1) X rfl in_X4 (by decide) hK0 (by decide) q219 (fv_1 (i := (o + 2)) rfl rfl) dX4_comes_229 ?_
    refine V_iload_n X dX4_comes_232 1 rfl ?_
    refine V_iald X (o := (o + 2)) (n := 12) (hW.blk (by decide) hK0 2 (by decide) rfl) (by decide) dX4_comes_233 h (fun v233 h => ?_)
    refine V_max X q578 (by decide) (Nat.le_of_ble_eq_true rfl) ⟨Nat.zero_le _, Nat.zero_le _⟩ dX4_comes_234 ?_
    refine V_put (ty := .int) (ci := 3) (N := 15) (C := RX4) (T := TX4) (o := o) (j := 9) (a := (imax (gI g222 309 o) v233)) X rfl in_X4 tyX4 tyX4_ok nmX4 (by decide) hK0 (by decide) rfl pfd_I rfl rfl q230 (by rw [fv_0 rfl, gI_sI, if_pos ⟨rfl, rfl⟩]) dX4_comes_237 ?_
    refine V_aload_n X dX4_comes_240 0 rfl ?_
    obtain ⟨i241, hvi241, hki241, h⟩ := rdR_some h
    refine V_get (ci := 3) (N := 15) (C := RX4) (T := TX4) (o := o) (j := 8) X rfl in_X4 (by decide) hK0 (by decide) q229 (fv_3i rfl hvi241) dX4_comes_241 ?_
    refine V_getN (ci := 8) (N := 24) (C := RX9) (T := TX9) (o := i241) (j := 2) X rfl in_X9 (by decide) hki241 (by decide) q364 (fv_1 (i := (i241 + 3)) rfl rfl) dX4_comes_244 ?_
    refine V_iload_n X dX4_comes_247 2 rfl ?_
    refine V_iald X (o := (i241 + 3)) (n := 12) (hW.blk (by decide) hki241 3 (by decide) rfl) (by decide) dX4_comes_248 h (fun v248 h => ?_)
    refine V_iconst X dX4_comes_249 ?_
    refine V_icmp_ne (tgt := 271) X dX4_comes_250 (by decide) h (fun h => ?_) (fun h => ?_)
    · refine V_iconst X dX4_comes_271 ?_
      exact V_sub [0, 1, 3, 5] rfl (J272 _ _ _ _ _ h)
    · refine V_aload_n X dX4_comes_253 0 rfl ?_
      obtain ⟨i254, hvi254, hki254, h⟩ := rdR_some h
      refine V_get (ci := 3) (N := 15) (C := RX4) (T := TX4) (o := o) (j := 8) X rfl in_X4 (by decide) hK0 (by decide) q229 (fv_3i rfl hvi254) dX4_comes_254 ?_
      refine V_iload X dX4_comes_257 4 rfl ?_
      refine V_aload_n X dX4_comes_259 0 rfl ?_
      refine V_get (ci := 3) (N := 15) (C := RX4) (T := TX4) (o := o) (j := 1) X rfl in_X4 (by decide) hK0 (by decide) q219 (fv_1 (i := (o + 2)) rfl rfl) dX4_comes_260 ?_
      refine V_iload_n X dX4_comes_263 1 rfl ?_
      refine V_iald X (o := (o + 2)) (n := 12) (hW.blk (by decide) hK0 2 (by decide) rfl) (by decide) dX4_comes_264 h (fun v264 h => ?_)
      obtain ⟨c265, hc265, h⟩ := bind_some_eq h
      refine V_callV (ci := 8) (N := 24) (T := TX9) (As := [vI l4, vI v264]) (rest := []) (s1 := [vI c265]) (o := i254) X (con_xRoad_rainIn K hW N i254 hki254 (sI g222 309 o (imax (gI g222 309 o) v233)) l4 v264 c265 hc265) gwX4_rainIn_114 hdV_X9_rainIn (by decide) rfl (by decide) hki254 rfl rfl (Nat.le_of_ble_eq_true rfl) ⟨Nat.zero_le _, Nat.zero_le _⟩ dX4_comes_265 rfl rfl ?_
      refine V_goto (tgt := 272) X dX4_comes_268 (by decide) ?_
      exact V_sub [0, 1, 3, 5] rfl (J272 _ _ _ _ _ h)
  have J155 : ∀ (g : GS) (l1 : Int) (l2 : Int) (l3 : Int) (l4 : Int) (s0 : Int) (s1 : Int), xWatch_comes_j155 N K o g l1 l2 l3 l4 s0 s1 = some r → V x 8 K 0 0 sz g 155 [(0, .ref (xb x + o)), (1, vI l1), (2, vI l2), (3, vI l3), (4, vI l4)] [vI s0, vI s1] := by
    intro g l1 l2 l3 l4 s0 s1 h
    unfold xWatch_comes_j155 at h
    refine V_iadd X dX4_comes_155 ?_
    refine V_istore X dX4_comes_156 (by decide) (L' := [(5, vI (s1 + s0)), (0, .ref (xb x + o)), (1, vI l1), (2, vI l2), (3, vI l3), (4, vI l4)]) rfl ?_
    refine V_aload_n X dX4_comes_158 1 rfl ?_
    refine V_get (ci := 3) (N := 15) (C := RX4) (T := TX4) (o := o) (j := 14) X rfl in_X4 (by decide) hK0 (by decide) q238 (fv_0 rfl) dX4_comes_159 ?_
    refine V_if_le (tgt := 192) X dX4_comes_162 (by decide) h (fun h => ?_) (fun h => ?_)
    · exact V_sub [1, 2, 3, 4, 5, 0] rfl (J192 _ _ _ _ _ _ h)
    · refine V_aload_n X dX4_comes_165 1 rfl ?_
      obtain ⟨c166, hc166, h⟩ := bind_some_eq h
      refine V_callV (ci := 3) (N := 15) (T := TX4) (As := []) (rest := []) (s1 := [vI c166.1]) (o := o) X (con_xWatch_draw K hW o hK0 g c166 hc166) gwX4_draw_107 hdV_X4_draw (by decide) rfl (by decide) hK0 rfl rfl (Nat.le_of_ble_eq_true rfl) ⟨Nat.zero_le _, Nat.zero_le _⟩ dX4_comes_166 rfl rfl ?_
      refine V_aload_n X dX4_comes_169 1 rfl ?_
      refine V_get (ci := 3) (N := 15) (C := RX4) (T := TX4) (o := o) (j := 14) X rfl in_X4 (by decide) hK0 (by decide) q238 (fv_0 rfl) dX4_comes_170 ?_
      refine V_icmp_ge (tgt := 192) X dX4_comes_173 (by decide) h (fun h => ?_) (fun h => ?_)
      · exact V_sub [1, 2, 3, 4, 5, 0] rfl (J192 _ _ _ _ _ _ h)
      · refine V_iload X dX4_comes_176 0 rfl ?_
        refine V_iconst X dX4_comes_178 ?_
        refine V_imul X dX4_comes_179 ?_
        refine V_istore X dX4_comes_180 (by decide) (L' := [(5, vI ((s1 + s0) * 2)), (0, .ref (xb x + o)), (1, vI l1), (2, vI l2), (3, vI l3), (4, vI l4)]) rfl ?_
        refine V_aload_n X dX4_comes_182 1 rfl ?_
        refine V_dup X dX4_comes_183 rfl ?_
        refine V_get (ci := 3) (N := 15) (C := RX4) (T := TX4) (o := o) (j := 10) X rfl in_X4 (by decide) hK0 (by decide) q233 (fv_0 rfl) dX4_comes_184 ?_
        refine V_iconst X dX4_comes_187 ?_
        refine V_iadd X dX4_comes_188 ?_
        refine V_put (ty := .int) (ci := 3) (N := 15) (C := RX4) (T := TX4) (o := o) (j := 10) (a := ((gI c166.2 310 o) + 1)) X rfl in_X4 tyX4 tyX4_ok nmX4 (by decide) hK0 (by decide) rfl pfd_I rfl rfl q233 (by rw [fv_0 rfl, gI_sI, if_pos ⟨rfl, rfl⟩]) dX4_comes_189 ?_
        exact V_sub [1, 2, 3, 4, 5, 0] rfl (J192 _ _ _ _ _ _ h)
  have LL89 : ∀ (g : GS) (l1 : Int) (l2 : Int) (l3 : Int) (n : Nat) (s : (Int × Int)) (e : (Int)), loopN (fun s => xWatch_comes_b89 N K o g l1 l2 l3 s.1 s.2) n s = some e → V x 8 K 0 0 sz g 131 [(0, .ref (xb x + o)), (1, vI l1), (2, vI l2), (3, vI l3), (4, vI e)] [] → V x 8 K 0 0 sz g 89 [(0, .ref (xb x + o)), (1, vI l1), (2, vI l2), (3, vI l3), (4, vI s.1), (5, vI s.2)] [] := by
    intro g l1 l2 l3 n s e
    refine loop_walk (P := fun s => V x 8 K 0 0 sz g 89 [(0, .ref (xb x + o)), (1, vI l1), (2, vI l2), (3, vI l3), (4, vI s.1), (5, vI s.2)] []) (E := fun e => V x 8 K 0 0 sz g 131 [(0, .ref (xb x + o)), (1, vI l1), (2, vI l2), (3, vI l3), (4, vI e)] []) ?_ n s e
    clear e s n
    rintro ⟨l4, l5⟩ q89 h hc89 he89
    replace h : xWatch_comes_b89 N K o g l1 l2 l3 l4 l5 = some q89 := h
    unfold xWatch_comes_b89 at h
    show V x 8 K 0 0 sz g 89 [(0, .ref (xb x + o)), (1, vI l1), (2, vI l2), (3, vI l3), (4, vI l4), (5, vI l5)] []
    refine V_iload X dX4_comes_89 5 rfl ?_
    refine V_aload_n X dX4_comes_91 0 rfl ?_
    obtain ⟨i92, hvi92, hki92, h⟩ := rdR_some h
    refine V_get (ci := 3) (N := 15) (C := RX4) (T := TX4) (o := o) (j := 8) X rfl in_X4 (by decide) hK0 (by decide) q229 (fv_3i rfl hvi92) dX4_comes_92 ?_
    refine V_getN (ci := 8) (N := 24) (C := RX9) (T := TX9) (o := i92) (j := 13) X rfl in_X9 (by decide) hki92 (by decide) q400 (fv_0 rfl) dX4_comes_95 ?_
    refine V_icmp_ge (tgt := 131) X dX4_comes_98 (by decide) h (fun h => ?_) (fun h => ?_)
    · exact V_sub [0, 1, 2, 3, 4] rfl (he89 _ (Option.some.inj h).symm)
    · refine V_iload_n X dX4_comes_101 3 rfl ?_
      refine V_iload X dX4_comes_102 5 rfl ?_
      refine V_ishr X dX4_comes_104 ?_
      refine V_iconst X dX4_comes_105 ?_
      refine V_iand X dX4_comes_106 ?_
      refine V_iconst X dX4_comes_107 ?_
      refine V_icmp_ne (tgt := 125) X dX4_comes_108 (by decide) h (fun h => ?_) (fun h => ?_)
      · refine V_iinc X dX4_comes_125 5 rfl (by decide) (L' := [(5, vI (l5 + 1)), (0, .ref (xb x + o)), (1, vI l1), (2, vI l2), (3, vI l3), (4, vI l4)]) rfl ?_
        refine V_goto (tgt := 89) X dX4_comes_128 (by decide) ?_
        exact V_sub [1, 2, 3, 4, 5, 0] rfl (hc89 _ (Option.some.inj h).symm)
      · refine V_iload X dX4_comes_111 4 rfl ?_
        refine V_aload_n X dX4_comes_113 0 rfl ?_
        refine V_get (ci := 3) (N := 15) (C := RX4) (T := TX4) (o := o) (j := 3) X rfl in_X4 (by decide) hK0 (by decide) q222 (fv_1 (i := (o + 4)) rfl rfl) dX4_comes_114 ?_
        refine V_iload X dX4_comes_117 5 rfl ?_
        refine V_iald X (o := (o + 4)) (n := 4) (hW.blk (by decide) hK0 4 (by decide) rfl) (by decide) dX4_comes_119 h (fun v119 h => ?_)
        refine V_max X q578 (by decide) (Nat.le_of_ble_eq_true rfl) ⟨Nat.zero_le _, Nat.zero_le _⟩ dX4_comes_120 ?_
        refine V_istore X dX4_comes_123 (by decide) (L' := [(4, vI (imax l4 v119)), (0, .ref (xb x + o)), (1, vI l1), (2, vI l2), (3, vI l3), (5, vI l5)]) rfl ?_
        refine V_iinc X dX4_comes_125 5 rfl (by decide) (L' := [(5, vI (l5 + 1)), (4, vI (imax l4 v119)), (0, .ref (xb x + o)), (1, vI l1), (2, vI l2), (3, vI l3)]) rfl ?_
        refine V_goto (tgt := 89) X dX4_comes_128 (by decide) ?_
        exact V_sub [2, 3, 4, 5, 1, 0] rfl (hc89 _ (Option.some.inj h).symm)
  have LL42 : ∀ (g : GS) (l1 : Int) (l2 : Int) (l3 : Int) (n : Nat) (s : (Int × Int)) (e : (Int)), loopN (fun s => xWatch_comes_b42 N K o g l1 l2 l3 s.1 s.2) n s = some e → V x 8 K 0 0 sz g 86 [(0, .ref (xb x + o)), (1, vI l1), (2, vI l2), (3, vI l3), (4, vI e)] [] → V x 8 K 0 0 sz g 42 [(0, .ref (xb x + o)), (1, vI l1), (2, vI l2), (3, vI l3), (4, vI s.1), (5, vI s.2)] [] := by
    intro g l1 l2 l3 n s e
    refine loop_walk (P := fun s => V x 8 K 0 0 sz g 42 [(0, .ref (xb x + o)), (1, vI l1), (2, vI l2), (3, vI l3), (4, vI s.1), (5, vI s.2)] []) (E := fun e => V x 8 K 0 0 sz g 86 [(0, .ref (xb x + o)), (1, vI l1), (2, vI l2), (3, vI l3), (4, vI e)] []) ?_ n s e
    clear e s n
    rintro ⟨l4, l5⟩ q42 h hc42 he42
    replace h : xWatch_comes_b42 N K o g l1 l2 l3 l4 l5 = some q42 := h
    unfold xWatch_comes_b42 at h
    show V x 8 K 0 0 sz g 42 [(0, .ref (xb x + o)), (1, vI l1), (2, vI l2), (3, vI l3), (4, vI l4), (5, vI l5)] []
    refine V_iload X dX4_comes_42 5 rfl ?_
    refine V_iload_n X dX4_comes_44 2 rfl ?_
    refine V_icmp_ge (tgt := 86) X dX4_comes_45 (by decide) h (fun h => ?_) (fun h => ?_)
    · exact V_sub [0, 1, 2, 3, 4] rfl (he42 _ (Option.some.inj h).symm)
    · refine V_aload_n X dX4_comes_48 0 rfl ?_
      obtain ⟨i49, hvi49, hki49, h⟩ := rdR_some h
      refine V_get (ci := 3) (N := 15) (C := RX4) (T := TX4) (o := o) (j := 8) X rfl in_X4 (by decide) hK0 (by decide) q229 (fv_3i rfl hvi49) dX4_comes_49 ?_
      refine V_getN (ci := 8) (N := 24) (C := RX9) (T := TX9) (o := i49) (j := 5) X rfl in_X9 (by decide) hki49 (by decide) q375 (fv_1 (i := (i49 + 6)) rfl rfl) dX4_comes_52 ?_
      refine V_iload_n X dX4_comes_55 2 rfl ?_
      refine V_iald X (o := (i49 + 6)) (n := 12) (hW.blk (by decide) hki49 6 (by decide) rfl) (by decide) dX4_comes_56 h (fun v56 h => ?_)
      refine V_iload X dX4_comes_57 5 rfl ?_
      refine V_ishr X dX4_comes_59 ?_
      refine V_iconst X dX4_comes_60 ?_
      refine V_iand X dX4_comes_61 ?_
      refine V_iconst X dX4_comes_62 ?_
      refine V_icmp_ne (tgt := 80) X dX4_comes_63 (by decide) h (fun h => ?_) (fun h => ?_)
      · refine V_iinc X dX4_comes_80 5 rfl (by decide) (L' := [(5, vI (l5 + 1)), (0, .ref (xb x + o)), (1, vI l1), (2, vI l2), (3, vI l3), (4, vI l4)]) rfl ?_
        refine V_goto (tgt := 42) X dX4_comes_83 (by decide) ?_
        exact V_sub [1, 2, 3, 4, 5, 0] rfl (hc42 _ (Option.some.inj h).symm)
      · refine V_iload X dX4_comes_66 4 rfl ?_
        refine V_aload_n X dX4_comes_68 0 rfl ?_
        refine V_get (ci := 3) (N := 15) (C := RX4) (T := TX4) (o := o) (j := 2) X rfl in_X4 (by decide) hK0 (by decide) q221 (fv_1 (i := (o + 3)) rfl rfl) dX4_comes_69 ?_
        refine V_iload X dX4_comes_72 5 rfl ?_
        refine V_iald X (o := (o + 3)) (n := 12) (hW.blk (by decide) hK0 3 (by decide) rfl) (by decide) dX4_comes_74 h (fun v74 h => ?_)
        refine V_max X q578 (by decide) (Nat.le_of_ble_eq_true rfl) ⟨Nat.zero_le _, Nat.zero_le _⟩ dX4_comes_75 ?_
        refine V_istore X dX4_comes_78 (by decide) (L' := [(4, vI (imax l4 v74)), (0, .ref (xb x + o)), (1, vI l1), (2, vI l2), (3, vI l3), (5, vI l5)]) rfl ?_
        refine V_iinc X dX4_comes_80 5 rfl (by decide) (L' := [(5, vI (l5 + 1)), (4, vI (imax l4 v74)), (0, .ref (xb x + o)), (1, vI l1), (2, vI l2), (3, vI l3)]) rfl ?_
        refine V_goto (tgt := 42) X dX4_comes_83 (by decide) ?_
        exact V_sub [2, 3, 4, 5, 1, 0] rfl (hc42 _ (Option.some.inj h).symm)
  unfold xWatch_comes at h
  show V x 8 K 0 0 sz g 0 [(0, .ref (xb x + o)), (1, vI l1), (2, vI l2), (3, vI l3)] []
  refine V_aload_n X dX4_comes_0 0 rfl ?_
  refine V_get (ci := 3) (N := 15) (C := RX4) (T := TX4) (o := o) (j := 0) X rfl in_X4 (by decide) hK0 (by decide) q217 (fv_1 (i := (o + 1)) rfl rfl) dX4_comes_1 ?_
  refine V_iload_n X dX4_comes_4 1 rfl ?_
  refine V_iconst X dX4_comes_5 ?_
  refine V_iast X (o := (o + 1)) (n := 12) (hW.blk (by decide) hK0 1 (by decide) rfl) (by decide) dX4_comes_6 h (fun g6 h => ?_)
  refine V_aload_n X dX4_comes_7 0 rfl ?_
  refine V_get (ci := 3) (N := 15) (C := RX4) (T := TX4) (o := o) (j := 1) X rfl in_X4 (by decide) hK0 (by decide) q219 (fv_1 (i := (o + 2)) rfl rfl) dX4_comes_8 ?_
  refine V_iload_n X dX4_comes_11 1 rfl ?_
  refine V_iconst X dX4_comes_12 ?_
  refine V_iast X (o := (o + 2)) (n := 12) (hW.blk (by decide) hK0 2 (by decide) rfl) (by decide) dX4_comes_13 h (fun g13 h => ?_)
  refine V_aload_n X dX4_comes_14 0 rfl ?_
  obtain ⟨i15, hvi15, hki15, h⟩ := rdR_some h
  refine V_get (ci := 3) (N := 15) (C := RX4) (T := TX4) (o := o) (j := 8) X rfl in_X4 (by decide) hK0 (by decide) q229 (fv_3i rfl hvi15) dX4_comes_15 ?_
  refine V_iload_n X dX4_comes_18 2 rfl ?_
  refine V_iload_n X dX4_comes_19 3 rfl ?_
  obtain ⟨c20, hc20, h⟩ := bind_some_eq h
  refine V_callV (ci := 8) (N := 24) (T := TX9) (As := [vI l2, vI l3]) (rest := []) (s1 := [vI c20]) (o := i15) X (con_xRoad_isDone K hW N i15 hki15 g13 l2 l3 c20 hc20) gwX4_isDone_86 hdV_X9_isDone (by decide) rfl (by decide) hki15 rfl rfl (Nat.le_of_ble_eq_true rfl) ⟨Nat.zero_le _, Nat.zero_le _⟩ dX4_comes_20 rfl rfl ?_
  refine V_if_eq (tgt := 34) X dX4_comes_23 (by decide) h (fun h => ?_) (fun h => ?_)
  · refine V_iconst X dX4_comes_34 ?_
    have hr := Option.some.inj h
    subst hr
    exact V_end_z hX (Or.inl rfl) rfl dX4_comes_35
  · refine V_aload_n X dX4_comes_26 0 rfl ?_
    refine V_iload_n X dX4_comes_27 2 rfl ?_
    obtain ⟨c28, hc28, h⟩ := bind_some_eq h
    refine V_callV (ci := 3) (N := 15) (T := TX4) (As := [vI l2]) (rest := []) (s1 := [vI c28]) (o := o) X (con_xWatch_isReady K hW N o hK0 g13 l2 c28 hc28) gwX4_isReady_90 hdV_X4_isReady (by decide) rfl (by decide) hK0 rfl rfl (Nat.le_of_ble_eq_true rfl) ⟨Nat.zero_le _, Nat.zero_le _⟩ dX4_comes_28 rfl rfl ?_
    refine V_if_ne (tgt := 36) X dX4_comes_31 (by decide) h (fun h => ?_) (fun h => ?_)
    · refine V_iconst X dX4_comes_36 ?_
      refine V_istore X dX4_comes_37 (by decide) (L' := [(4, vI 0), (0, .ref (xb x + o)), (1, vI l1), (2, vI l2), (3, vI l3)]) rfl ?_
      refine V_iconst X dX4_comes_39 ?_
      refine V_istore X dX4_comes_40 (by decide) (L' := [(5, vI 0), (4, vI 0), (0, .ref (xb x + o)), (1, vI l1), (2, vI l2), (3, vI l3)]) rfl ?_
      obtain ⟨t2, t2q, h⟩ := bind_some_eq h
      refine V_sub [2, 3, 4, 5, 1, 0] rfl (LL42 g13 l1 l2 l3 N (0, 0) _ t2q ?_)
      refine V_iconst X dX4_comes_86 ?_
      refine V_istore X dX4_comes_87 (by decide) (L' := [(5, vI 0), (0, .ref (xb x + o)), (1, vI l1), (2, vI l2), (3, vI l3), (4, vI t2)]) rfl ?_
      obtain ⟨t3, t3q, h⟩ := bind_some_eq h
      refine V_sub [1, 2, 3, 4, 5, 0] rfl (LL89 g13 l1 l2 l3 N (t2, 0) _ t3q ?_)
      refine V_aload_n X dX4_comes_131 0 rfl ?_
      refine V_iload_n X dX4_comes_132 2 rfl ?_
      refine V_iload_n X dX4_comes_133 3 rfl ?_
      refine V_iload X dX4_comes_134 4 rfl ?_
      obtain ⟨c136, hc136, h⟩ := bind_some_eq h
      refine V_callV (ci := 3) (N := 15) (T := TX4) (As := [vI l2, vI l3, vI t3]) (rest := []) (s1 := [vI c136.1]) (o := o) X (con_xWatch_lasts K hW N o hK0 g13 l2 l3 t3 c136 hc136) gwX4_lasts_103 hdV_X4_lasts (by decide) rfl (by decide) hK0 rfl rfl (Nat.le_of_ble_eq_true rfl) ⟨Nat.zero_le _, Nat.zero_le _⟩ dX4_comes_136 rfl rfl ?_
      refine V_iload_n X dX4_comes_139 2 rfl ?_
      refine V_aload_n X dX4_comes_140 0 rfl ?_
      refine V_get (ci := 3) (N := 15) (C := RX4) (T := TX4) (o := o) (j := 12) X rfl in_X4 (by decide) hK0 (by decide) q236 (fv_0 rfl) dX4_comes_141 ?_
      refine V_icmp_ne (tgt := 154) X dX4_comes_144 (by decide) h (fun h => ?_) (fun h => ?_)
      · refine V_iconst X dX4_comes_154 ?_
        exact V_sub [0, 1, 2, 3, 4] rfl (J155 _ _ _ _ _ _ _ h)
      · refine V_aload_n X dX4_comes_147 0 rfl ?_
        refine V_get (ci := 3) (N := 15) (C := RX4) (T := TX4) (o := o) (j := 13) X rfl in_X4 (by decide) hK0 (by decide) q237 (fv_0 rfl) dX4_comes_148 ?_
        refine V_goto (tgt := 155) X dX4_comes_151 (by decide) ?_
        exact V_sub [0, 1, 2, 3, 4] rfl (J155 _ _ _ _ _ _ _ h)
    · refine V_iconst X dX4_comes_34 ?_
      have hr := Option.some.inj h
      subst hr
      exact V_end_z hX (Or.inl rfl) rfl dX4_comes_35
set_option maxHeartbeats 4000000 in
theorem con_xWatch_goes (K : Nat → Nat) (hW : WFK K) (N : Nat) (o : Nat) (hK0 : K o = 4) (l1 : Nat) (hK1 : K l1 = 3) (g : GS) (r : GS) (h : xWatch_goes N K o l1 g = some r) : Con yX4_goes cX4_goes 3 (some (.object "RainWheel$Watch")) 209 4991 K (fun b => [.ref (b + o), .ref (b + l1)]) g (fun b => some (.ref (b + o))) r := by
  refine Con.of RX4 (by decide) rfl (fun b => Nat.le_of_ble_eq_true rfl) (fun x sz hX => ?_)
  have X := hX.1
  have LL2 : ∀  (n : Nat) (s : (GS × Int)) (e : (GS)), loopN (fun s => xWatch_goes_b2 N K o l1 s.1 s.2) n s = some e → V x 3 K 0 0 sz e 34 [(0, .ref (xb x + o))] [] → V x 3 K 0 0 sz s.1 2 [(0, .ref (xb x + o)), (1, .ref (xb x + l1)), (2, vI s.2)] [] := by
    intro  n s e
    refine loop_walk (P := fun s => V x 3 K 0 0 sz s.1 2 [(0, .ref (xb x + o)), (1, .ref (xb x + l1)), (2, vI s.2)] []) (E := fun e => V x 3 K 0 0 sz e 34 [(0, .ref (xb x + o))] []) ?_ n s e
    clear e s n
    rintro ⟨g, l2⟩ q2 h hc2 he2
    replace h : xWatch_goes_b2 N K o l1 g l2 = some q2 := h
    unfold xWatch_goes_b2 at h
    show V x 3 K 0 0 sz g 2 [(0, .ref (xb x + o)), (1, .ref (xb x + l1)), (2, vI l2)] []
    refine V_iload_n X dX4_goes_2 2 rfl ?_
    refine V_aload_n X dX4_goes_3 1 rfl ?_
    refine V_getN (ci := 2) (N := 3) (C := RX3) (T := TX3) (o := l1) (j := 2) X rfl in_X3 (by decide) hK1 (by decide) q159 (fv_0 rfl) dX4_goes_4 ?_
    refine V_icmp_ge (tgt := 34) X dX4_goes_7 (by decide) h (fun h => ?_) (fun h => ?_)
    · exact V_sub [0] rfl (he2 _ (Option.some.inj h).symm)
    · refine V_aload_n X dX4_goes_10 0 rfl ?_
      refine V_iload_n X dX4_goes_11 2 rfl ?_
      refine V_aload_n X dX4_goes_12 1 rfl ?_
      refine V_getN (ci := 2) (N := 3) (C := RX3) (T := TX3) (o := l1) (j := 0) X rfl in_X3 (by decide) hK1 (by decide) q153 (fv_1 (i := (l1 + 1)) rfl rfl) dX4_goes_13 ?_
      refine V_iload_n X dX4_goes_16 2 rfl ?_
      refine V_iald X (o := (l1 + 1)) (n := 12) (hW.blk (by decide) hK1 1 (by decide) rfl) (by decide) dX4_goes_17 h (fun v17 h => ?_)
      refine V_aload_n X dX4_goes_18 1 rfl ?_
      refine V_getN (ci := 2) (N := 3) (C := RX3) (T := TX3) (o := l1) (j := 1) X rfl in_X3 (by decide) hK1 (by decide) q156 (fv_1 (i := (l1 + 2)) rfl rfl) dX4_goes_19 ?_
      refine V_iload_n X dX4_goes_22 2 rfl ?_
      refine V_iald X (o := (l1 + 2)) (n := 12) (hW.blk (by decide) hK1 2 (by decide) rfl) (by decide) dX4_goes_23 h (fun v23 h => ?_)
      obtain ⟨c24, hc24, h⟩ := bind_some_eq h
      refine V_callV (ci := 3) (N := 15) (T := TX4) (As := [vI l2, vI v17, vI v23]) (rest := []) (s1 := [vI c24.1]) (o := o) X (con_xWatch_comes K hW N o hK0 g l2 v17 v23 c24 hc24) gwX4_comes_79 hdV_X4_comes (by decide) rfl (by decide) hK0 rfl rfl (Nat.le_of_ble_eq_true rfl) ⟨Nat.zero_le _, Nat.zero_le _⟩ dX4_goes_24 rfl rfl ?_
      refine V_pop X dX4_goes_27 rfl ?_
      refine V_iinc X dX4_goes_28 2 rfl (by decide) (L' := [(2, vI (l2 + 1)), (0, .ref (xb x + o)), (1, .ref (xb x + l1))]) rfl ?_
      refine V_goto (tgt := 2) X dX4_goes_31 (by decide) ?_
      exact V_sub [1, 2, 0] rfl (hc2 _ (Option.some.inj h).symm)
  unfold xWatch_goes at h
  show V x 3 K 0 0 sz g 0 [(0, .ref (xb x + o)), (1, .ref (xb x + l1))] []
  refine V_iconst X dX4_goes_0 ?_
  refine V_istore_n X dX4_goes_1 (by decide) (L' := [(2, vI 0), (0, .ref (xb x + o)), (1, .ref (xb x + l1))]) rfl ?_
  obtain ⟨t1, t1q, h⟩ := bind_some_eq h
  refine V_sub [1, 2, 0] rfl (LL2 N (g, 0) _ t1q ?_)
  refine V_aload_n X dX4_goes_34 0 rfl ?_
  have hr := Option.some.inj h
  subst hr
  exact V_end_a hX rfl dX4_goes_35
set_option maxHeartbeats 4000000 in
theorem con_x_gone (K : Nat → Nat) (hW : WFK K) (N : Nat) (g : GS) (r : GS) (h : x_gone N K g = some r) : Con yX1_gone cX1_gone 1 (some (.object "RainWheel$Watch")) 210 5013 K (fun b => [.ref (b + 0)]) g (fun b => some (.ref (b + 14))) r := by
  refine Con.of RX1 (by decide) rfl (fun b => Nat.le_of_ble_eq_true rfl) (fun x sz hX => ?_)
  have X := hX.1
  unfold x_gone at h
  show V x 1 K 0 0 sz g 0 [(0, .ref (xb x + 0))] []
  refine V_aload_n X dX1_gone_0 0 rfl ?_
  refine V_get (ci := 0) (N := 18) (C := RX1) (T := TX1) (o := 0) (j := 8) X rfl in_X1 (by decide) (hW.at 0 rfl) (by decide) q485 (fv_1 (i := 14) rfl rfl) dX1_gone_1 ?_
  refine V_aload_n X dX1_gone_4 0 rfl ?_
  obtain ⟨i5, hvi5, hki5, h⟩ := rdR_some h
  refine V_get (ci := 0) (N := 18) (C := RX1) (T := TX1) (o := 0) (j := 12) X rfl in_X1 (by decide) (hW.at 0 rfl) (by decide) q489 (fv_3i rfl hvi5) dX1_gone_5 ?_
  obtain ⟨c8, hc8, h⟩ := bind_some_eq h
  refine V_callV (ci := 3) (N := 15) (T := TX4) (As := [.ref (xb x + i5)]) (rest := []) (s1 := [.ref (xb x + 14)]) (o := 14) X (con_xWatch_starts K hW N 14 (hW.at 14 rfl) i5 hki5 g c8 hc8) gwX1_starts_265 hdV_X4_starts (by decide) rfl (by decide) (hW.at 14 rfl) rfl rfl (Nat.le_of_ble_eq_true rfl) ⟨Nat.zero_le _, Nat.zero_le _⟩ dX1_gone_8 rfl rfl ?_
  refine V_aload_n X dX1_gone_11 0 rfl ?_
  refine V_get (ci := 0) (N := 18) (C := RX1) (T := TX1) (o := 0) (j := 2) X rfl in_X1 (by decide) (hW.at 0 rfl) (by decide) q479 (fv_1 (i := 3) rfl rfl) dX1_gone_12 ?_
  obtain ⟨c15, hc15, h⟩ := bind_some_eq h
  refine V_callV (ci := 3) (N := 15) (T := TX4) (As := [.ref (xb x + 3)]) (rest := []) (s1 := [.ref (xb x + 14)]) (o := 14) X (con_xWatch_goes K hW N 14 (hW.at 14 rfl) 3 (hW.at 3 rfl) c8 c15 hc15) gwX1_goes_269 hdV_X4_goes (by decide) rfl (by decide) (hW.at 14 rfl) rfl rfl (Nat.le_of_ble_eq_true rfl) ⟨Nat.zero_le _, Nat.zero_le _⟩ dX1_gone_15 rfl rfl ?_
  have hr := Option.some.inj h
  subst hr
  exact V_end_a hX rfl dX1_gone_18
set_option maxHeartbeats 4000000 in
theorem con_x_span (K : Nat → Nat) (hW : WFK K) (N : Nat) (g : GS) (r : (Int × GS)) (h : x_span N K g = some r) : Con yX1_span cX1_span 1 (some .int) 211 5033 K (fun b => [.ref (b + 0)]) g (fun _ => some (vI r.1)) r.2 := by
  refine Con.of RX1 (by decide) rfl (fun b => Nat.le_of_ble_eq_true rfl) (fun x sz hX => ?_)
  have X := hX.1
  unfold x_span at h
  show V x 1 K 0 0 sz g 0 [(0, .ref (xb x + 0))] []
  refine V_aload_n X dX1_span_0 0 rfl ?_
  obtain ⟨c1, hc1, h⟩ := bind_some_eq h
  refine V_callV (ci := 0) (N := 18) (T := TX1) (As := []) (rest := []) (s1 := [.ref (xb x + 14)]) (o := 0) X (con_x_gone K hW N g c1 hc1) gwX1_gone_276 hdV_X1_gone (by decide) rfl (by decide) (hW.at 0 rfl) rfl rfl (Nat.le_of_ble_eq_true rfl) ⟨Nat.zero_le _, Nat.zero_le _⟩ dX1_span_1 rfl rfl ?_
  refine V_getN (ci := 3) (N := 15) (C := RX4) (T := TX4) (o := 14) (j := 9) X rfl in_X4 (by decide) (hW.at 14 rfl) (by decide) q232 (fv_0 rfl) dX1_span_4 ?_
  have hr := Option.some.inj h
  subst hr
  exact V_end_i hX rfl dX1_span_7
set_option maxHeartbeats 4000000 in
theorem con_x_umbrella (K : Nat → Nat) (hW : WFK K) (N : Nat) (g : GS) (r : (Int × GS)) (h : x_umbrella N K g = some r) : Con yX1_umbrella cX1_umbrella 3 (some .int) 211 5033 K (fun b => [.ref (b + 0)]) g (fun _ => some (vI r.1)) r.2 := by
  refine Con.of RX1 (by decide) rfl (fun b => Nat.le_of_ble_eq_true rfl) (fun x sz hX => ?_)
  have X := hX.1
  have LL9 : ∀ (g : GS) (n : Nat) (s : (Int × Int)) (e : (Int × GS)), loopN (fun s => x_umbrella_b9 N K g s.1 s.2) n s = some e → (e = r) → V x 3 K 0 0 sz g 9 [(0, .ref (xb x + 0)), (1, vI s.1), (2, vI s.2)] [] := by
    intro g n s e
    refine loop_walk (P := fun s => V x 3 K 0 0 sz g 9 [(0, .ref (xb x + 0)), (1, vI s.1), (2, vI s.2)] []) (E := fun e => e = r) ?_ n s e
    clear e s n
    rintro ⟨l1, l2⟩ q9 h hc9 he9
    replace h : x_umbrella_b9 N K g l1 l2 = some q9 := h
    have J47 : ∀ (l1 : Int) (l2 : Int) (s0 : Int) (s1 : Int), x_umbrella_j47 N K g l1 l2 s0 s1 = some q9 → V x 3 K 0 0 sz g 47 [(0, .ref (xb x + 0)), (1, vI l1), (2, vI l2)] [vI s0, vI s1] := by
      intro l1 l2 s0 s1 h
      unfold x_umbrella_j47 at h
      refine V_icmp_le (tgt := 52) X dX1_umbrella_47 (by decide) h (fun h => ?_) (fun h => ?_)
      · refine V_iinc X dX1_umbrella_52 2 rfl (by decide) (L' := [(2, vI (l2 + 1)), (0, .ref (xb x + 0)), (1, vI l1)]) rfl ?_
        refine V_goto (tgt := 9) X dX1_umbrella_55 (by decide) ?_
        exact V_sub [1, 2, 0] rfl (hc9 _ (Option.some.inj h).symm)
      · refine V_iload_n X dX1_umbrella_50 2 rfl ?_
        refine V_istore_n X dX1_umbrella_51 (by decide) (L' := [(1, vI l2), (0, .ref (xb x + 0)), (2, vI l2)]) rfl ?_
        refine V_iinc X dX1_umbrella_52 2 rfl (by decide) (L' := [(2, vI (l2 + 1)), (1, vI l2), (0, .ref (xb x + 0))]) rfl ?_
        refine V_goto (tgt := 9) X dX1_umbrella_55 (by decide) ?_
        exact V_sub [2, 1, 0] rfl (hc9 _ (Option.some.inj h).symm)
    unfold x_umbrella_b9 at h
    show V x 3 K 0 0 sz g 9 [(0, .ref (xb x + 0)), (1, vI l1), (2, vI l2)] []
    refine V_iload_n X dX1_umbrella_9 2 rfl ?_
    refine V_aload_n X dX1_umbrella_10 0 rfl ?_
    obtain ⟨i11, hvi11, hki11, h⟩ := rdR_some h
    refine V_get (ci := 0) (N := 18) (C := RX1) (T := TX1) (o := 0) (j := 12) X rfl in_X1 (by decide) (hW.at 0 rfl) (by decide) q489 (fv_3i rfl hvi11) dX1_umbrella_11 ?_
    refine V_getN (ci := 8) (N := 24) (C := RX9) (T := TX9) (o := i11) (j := 13) X rfl in_X9 (by decide) hki11 (by decide) q399 (fv_0 rfl) dX1_umbrella_14 ?_
    refine V_icmp_ge (tgt := 58) X dX1_umbrella_17 (by decide) h (fun h => ?_) (fun h => ?_)
    · obtain ⟨e1, h, e1q⟩ := outR_some h
      replace h := h.trans (congrArg some (he9 _ e1q))
      refine V_iload_n X dX1_umbrella_58 1 rfl ?_
      have hr := Option.some.inj h
      subst hr
      exact V_end_i hX rfl dX1_umbrella_59
    · refine V_aload_n X dX1_umbrella_20 0 rfl ?_
      refine V_get (ci := 0) (N := 18) (C := RX1) (T := TX1) (o := 0) (j := 8) X rfl in_X1 (by decide) (hW.at 0 rfl) (by decide) q485 (fv_1 (i := 14) rfl rfl) dX1_umbrella_21 ?_
      refine V_getN (ci := 3) (N := 15) (C := RX4) (T := TX4) (o := 14) (j := 4) X rfl in_X4 (by decide) (hW.at 14 rfl) (by decide) q224 (fv_1 (i := 19) rfl rfl) dX1_umbrella_24 ?_
      refine V_iload_n X dX1_umbrella_27 2 rfl ?_
      refine V_iald X (o := 19) (n := 4) (hW.at 19 rfl) (by decide) dX1_umbrella_28 h (fun v28 h => ?_)
      refine V_iload_n X dX1_umbrella_29 1 rfl ?_
      refine V_iconst X dX1_umbrella_30 ?_
      refine V_icmp_ne (tgt := 38) X dX1_umbrella_31 (by decide) h (fun h => ?_) (fun h => ?_)
      · refine V_aload_n X dX1_umbrella_38 0 rfl ?_
        refine V_get (ci := 0) (N := 18) (C := RX1) (T := TX1) (o := 0) (j := 8) X rfl in_X1 (by decide) (hW.at 0 rfl) (by decide) q485 (fv_1 (i := 14) rfl rfl) dX1_umbrella_39 ?_
        refine V_getN (ci := 3) (N := 15) (C := RX4) (T := TX4) (o := 14) (j := 4) X rfl in_X4 (by decide) (hW.at 14 rfl) (by decide) q224 (fv_1 (i := 19) rfl rfl) dX1_umbrella_42 ?_
        refine V_iload_n X dX1_umbrella_45 1 rfl ?_
        refine V_iald X (o := 19) (n := 4) (hW.at 19 rfl) (by decide) dX1_umbrella_46 h (fun v46 h => ?_)
        exact V_sub [0, 1, 2] rfl (J47 _ _ _ _ h)
      · refine V_iconst X dX1_umbrella_34 ?_
        refine V_goto (tgt := 47) X dX1_umbrella_35 (by decide) ?_
        exact V_sub [0, 1, 2] rfl (J47 _ _ _ _ h)
  unfold x_umbrella at h
  show V x 3 K 0 0 sz g 0 [(0, .ref (xb x + 0))] []
  refine V_aload_n X dX1_umbrella_0 0 rfl ?_
  obtain ⟨c1, hc1, h⟩ := bind_some_eq h
  refine V_callV (ci := 0) (N := 18) (T := TX1) (As := []) (rest := []) (s1 := [.ref (xb x + 14)]) (o := 0) X (con_x_gone K hW N g c1 hc1) gwX1_gone_276 hdV_X1_gone (by decide) rfl (by decide) (hW.at 0 rfl) rfl rfl (Nat.le_of_ble_eq_true rfl) ⟨Nat.zero_le _, Nat.zero_le _⟩ dX1_umbrella_1 rfl rfl ?_
  refine V_pop X dX1_umbrella_4 rfl ?_
  refine V_iconst X dX1_umbrella_5 ?_
  refine V_istore_n X dX1_umbrella_6 (by decide) (L' := [(1, vI (-1)), (0, .ref (xb x + 0))]) rfl ?_
  refine V_iconst X dX1_umbrella_7 ?_
  refine V_istore_n X dX1_umbrella_8 (by decide) (L' := [(2, vI 0), (1, vI (-1)), (0, .ref (xb x + 0))]) rfl ?_
  exact V_sub [2, 1, 0] rfl (LL9 c1 N ((-1), 0) _ h rfl)
set_option maxHeartbeats 4000000 in
theorem con_x_slackOf (K : Nat → Nat) (hW : WFK K) (N : Nat) (g : GS) (l1 : Int) (r : (Int × GS)) (h : x_slackOf N K g l1 = some r) : Con yX1_slackOf cX1_slackOf 5 (some .int) 211 5033 K (fun b => [.ref (b + 0), vI l1]) g (fun _ => some (vI r.1)) r.2 := by
  refine Con.of RX1 (by decide) rfl (fun b => Nat.le_of_ble_eq_true rfl) (fun x sz hX => ?_)
  have X := hX.1
  have LL40 : ∀ (l1 : Int) (l3 : Int) (n : Nat) (s : (GS × Int)) (e : (Int × GS)), loopN (fun s => x_slackOf_b40 N K l1 l3 s.1 s.2) n s = some e → (e = r) → V x 5 K 0 0 sz s.1 40 [(0, .ref (xb x + 0)), (1, vI l1), (3, vI l3), (4, vI s.2)] [] := by
    intro l1 l3 n s e
    refine loop_walk (P := fun s => V x 5 K 0 0 sz s.1 40 [(0, .ref (xb x + 0)), (1, vI l1), (3, vI l3), (4, vI s.2)] []) (E := fun e => e = r) ?_ n s e
    clear e s n
    rintro ⟨g, l4⟩ q40 h hc40 he40
    replace h : x_slackOf_b40 N K l1 l3 g l4 = some q40 := h
    unfold x_slackOf_b40 at h
    show V x 5 K 0 0 sz g 40 [(0, .ref (xb x + 0)), (1, vI l1), (3, vI l3), (4, vI l4)] []
    refine V_iload X dX1_slackOf_40 3 rfl ?_
    refine V_bipush X dX1_slackOf_42 (by decide) ?_
    refine V_icmp_ge (tgt := 86) X dX1_slackOf_44 (by decide) h (fun h => ?_) (fun h => ?_)
    · obtain ⟨e1, h, e1q⟩ := outR_some h
      replace h := h.trans (congrArg some (he40 _ e1q))
      refine V_iload X dX1_slackOf_86 3 rfl ?_
      have hr := Option.some.inj h
      subst hr
      exact V_end_i hX rfl dX1_slackOf_88
    · refine V_aload_n X dX1_slackOf_47 0 rfl ?_
      refine V_get (ci := 0) (N := 18) (C := RX1) (T := TX1) (o := 0) (j := 8) X rfl in_X1 (by decide) (hW.at 0 rfl) (by decide) q485 (fv_1 (i := 14) rfl rfl) dX1_slackOf_48 ?_
      refine V_aload_n X dX1_slackOf_51 0 rfl ?_
      obtain ⟨i52, hvi52, hki52, h⟩ := rdR_some h
      refine V_get (ci := 0) (N := 18) (C := RX1) (T := TX1) (o := 0) (j := 12) X rfl in_X1 (by decide) (hW.at 0 rfl) (by decide) q489 (fv_3i rfl hvi52) dX1_slackOf_52 ?_
      obtain ⟨c55, hc55, h⟩ := bind_some_eq h
      refine V_callV (ci := 3) (N := 15) (T := TX4) (As := [.ref (xb x + i52)]) (rest := []) (s1 := [.ref (xb x + 14)]) (o := 14) X (con_xWatch_starts K hW N 14 (hW.at 14 rfl) i52 hki52 g c55 hc55) gwX1_starts_265 hdV_X4_starts (by decide) rfl (by decide) (hW.at 14 rfl) rfl rfl (Nat.le_of_ble_eq_true rfl) ⟨Nat.zero_le _, Nat.zero_le _⟩ dX1_slackOf_55 rfl rfl ?_
      refine V_iload_n X dX1_slackOf_58 1 rfl ?_
      refine V_iload X dX1_slackOf_59 3 rfl ?_
      refine V_iconst X dX1_slackOf_61 ?_
      refine V_iadd X dX1_slackOf_62 ?_
      obtain ⟨c63, hc63, h⟩ := bind_some_eq h
      refine V_callV (ci := 3) (N := 15) (T := TX4) (As := [vI l1, vI (l4 + 1)]) (rest := []) (s1 := [.ref (xb x + 14)]) (o := 14) X (con_xWatch_longer K hW 14 (hW.at 14 rfl) c55 l1 (l4 + 1) c63 hc63) gwX1_longer_304 hdV_X4_longer (by decide) rfl (by decide) (hW.at 14 rfl) rfl rfl (Nat.le_of_ble_eq_true rfl) ⟨Nat.zero_le _, Nat.zero_le _⟩ dX1_slackOf_63 rfl rfl ?_
      refine V_aload_n X dX1_slackOf_66 0 rfl ?_
      refine V_get (ci := 0) (N := 18) (C := RX1) (T := TX1) (o := 0) (j := 2) X rfl in_X1 (by decide) (hW.at 0 rfl) (by decide) q479 (fv_1 (i := 3) rfl rfl) dX1_slackOf_67 ?_
      obtain ⟨c70, hc70, h⟩ := bind_some_eq h
      refine V_callV (ci := 3) (N := 15) (T := TX4) (As := [.ref (xb x + 3)]) (rest := []) (s1 := [.ref (xb x + 14)]) (o := 14) X (con_xWatch_goes K hW N 14 (hW.at 14 rfl) 3 (hW.at 3 rfl) c63 c70 hc70) gwX1_goes_269 hdV_X4_goes (by decide) rfl (by decide) (hW.at 14 rfl) rfl rfl (Nat.le_of_ble_eq_true rfl) ⟨Nat.zero_le _, Nat.zero_le _⟩ dX1_slackOf_70 rfl rfl ?_
      refine V_getN (ci := 3) (N := 15) (C := RX4) (T := TX4) (o := 14) (j := 9) X rfl in_X4 (by decide) (hW.at 14 rfl) (by decide) q232 (fv_0 rfl) dX1_slackOf_73 ?_
      refine V_iload_n X dX1_slackOf_76 2 rfl ?_
      refine V_icmp_gt (tgt := 86) X dX1_slackOf_77 (by decide) h (fun h => ?_) (fun h => ?_)
      · obtain ⟨e2, h, e2q⟩ := outR_some h
        replace h := h.trans (congrArg some (he40 _ e2q))
        refine V_iload X dX1_slackOf_86 3 rfl ?_
        have hr := Option.some.inj h
        subst hr
        exact V_end_i hX rfl dX1_slackOf_88
      · refine V_iinc X dX1_slackOf_80 3 rfl (by decide) (L' := [(4, vI (l4 + 1)), (0, .ref (xb x + 0)), (1, vI l1), (3, vI l3)]) rfl ?_
        refine V_goto (tgt := 40) X dX1_slackOf_83 (by decide) ?_
        exact V_sub [1, 2, 3, 0] rfl (hc40 _ (Option.some.inj h).symm)
  unfold x_slackOf at h
  show V x 5 K 0 0 sz g 0 [(0, .ref (xb x + 0)), (1, vI l1)] []
  refine V_aload_n X dX1_slackOf_0 0 rfl ?_
  refine V_get (ci := 0) (N := 18) (C := RX1) (T := TX1) (o := 0) (j := 2) X rfl in_X1 (by decide) (hW.at 0 rfl) (by decide) q479 (fv_1 (i := 3) rfl rfl) dX1_slackOf_1 ?_
  refine V_iload_n X dX1_slackOf_4 1 rfl ?_
  obtain ⟨c5, hc5, h⟩ := bind_some_eq h
  refine V_callV (ci := 2) (N := 3) (T := TX3) (As := [vI l1]) (rest := []) (s1 := [vI c5]) (o := 3) X (con_xPlan_lineOf K hW N 3 (hW.at 3 rfl) g l1 c5 hc5) gwX1_lineOf_301 hdV_X3_lineOf (by decide) rfl (by decide) (hW.at 3 rfl) rfl rfl (Nat.le_of_ble_eq_true rfl) ⟨Nat.zero_le _, Nat.zero_le _⟩ dX1_slackOf_5 rfl rfl ?_
  refine V_istore_n X dX1_slackOf_8 (by decide) (L' := [(2, vI c5), (0, .ref (xb x + 0)), (1, vI l1)]) rfl ?_
  refine V_aload_n X dX1_slackOf_9 1 rfl ?_
  obtain ⟨c10, hc10, h⟩ := bind_some_eq h
  refine V_callV (ci := 0) (N := 18) (T := TX1) (As := []) (rest := []) (s1 := [.ref (xb x + 14)]) (o := 0) X (con_x_gone K hW N g c10 hc10) gwX1_gone_276 hdV_X1_gone (by decide) rfl (by decide) (hW.at 0 rfl) rfl rfl (Nat.le_of_ble_eq_true rfl) ⟨Nat.zero_le _, Nat.zero_le _⟩ dX1_slackOf_10 rfl rfl ?_
  refine V_getN (ci := 3) (N := 15) (C := RX4) (T := TX4) (o := 14) (j := 9) X rfl in_X4 (by decide) (hW.at 14 rfl) (by decide) q232 (fv_0 rfl) dX1_slackOf_13 ?_
  refine V_istore_n X dX1_slackOf_16 (by decide) (L' := [(3, vI (gI c10 309 14)), (2, vI c5), (0, .ref (xb x + 0)), (1, vI l1)]) rfl ?_
  refine V_iload_n X dX1_slackOf_17 1 rfl ?_
  refine V_iconst X dX1_slackOf_18 ?_
  refine V_icmp_eq (tgt := 35) X dX1_slackOf_19 (by decide) h (fun h => ?_) (fun h => ?_)
  · refine V_iconst X dX1_slackOf_35 ?_
    have hr := Option.some.inj h
    subst hr
    exact V_end_i hX rfl dX1_slackOf_36
  · refine V_aload_n X dX1_slackOf_22 2 rfl ?_
    refine V_get (ci := 0) (N := 18) (C := RX1) (T := TX1) (o := 0) (j := 8) X rfl in_X1 (by decide) (hW.at 0 rfl) (by decide) q485 (fv_1 (i := 14) rfl rfl) dX1_slackOf_23 ?_
    refine V_getN (ci := 3) (N := 15) (C := RX4) (T := TX4) (o := 14) (j := 0) X rfl in_X4 (by decide) (hW.at 14 rfl) (by decide) q218 (fv_1 (i := 15) rfl rfl) dX1_slackOf_26 ?_
    refine V_iload_n X dX1_slackOf_29 1 rfl ?_
    refine V_iald X (o := 15) (n := 12) (hW.at 15 rfl) (by decide) dX1_slackOf_30 h (fun v30 h => ?_)
    refine V_iconst X dX1_slackOf_31 ?_
    refine V_icmp_ne (tgt := 37) X dX1_slackOf_32 (by decide) h (fun h => ?_) (fun h => ?_)
    · refine V_iconst X dX1_slackOf_37 ?_
      refine V_istore X dX1_slackOf_38 (by decide) (L' := [(4, vI 0), (3, vI (gI c10 309 14)), (2, vI c5), (0, .ref (xb x + 0)), (1, vI l1)]) rfl ?_
      exact V_sub [3, 4, 1, 0] rfl (LL40 l1 (gI c10 309 14) N (c10, 0) _ h rfl)
    · refine V_iconst X dX1_slackOf_35 ?_
      have hr := Option.some.inj h
      subst hr
      exact V_end_i hX rfl dX1_slackOf_36
set_option maxHeartbeats 4000000 in
theorem con_x_urgent (K : Nat → Nat) (hW : WFK K) (N : Nat) (g : GS) (r : (Int × GS)) (h : x_urgent N K g = some r) : Con yX1_urgent cX1_urgent 3 (some .int) 212 5057 K (fun b => [.ref (b + 0)]) g (fun _ => some (vI r.1)) r.2 := by
  refine Con.of RX1 (by decide) rfl (fun b => Nat.le_of_ble_eq_true rfl) (fun x sz hX => ?_)
  have X := hX.1
  have LL4 : ∀  (n : Nat) (s : (GS × Int × Int)) (e : (Int × GS)), loopN (fun s => x_urgent_b4 N K s.1 s.2.1 s.2.2) n s = some e → (e = r) → V x 3 K 0 0 sz s.1 4 [(0, .ref (xb x + 0)), (1, vI s.2.1), (2, vI s.2.2)] [] := by
    intro  n s e
    refine loop_walk (P := fun s => V x 3 K 0 0 sz s.1 4 [(0, .ref (xb x + 0)), (1, vI s.2.1), (2, vI s.2.2)] []) (E := fun e => e = r) ?_ n s e
    clear e s n
    rintro ⟨g, l1, l2⟩ q4 h hc4 he4
    replace h : x_urgent_b4 N K g l1 l2 = some q4 := h
    unfold x_urgent_b4 at h
    show V x 3 K 0 0 sz g 4 [(0, .ref (xb x + 0)), (1, vI l1), (2, vI l2)] []
    refine V_iload_n X dX1_urgent_4 2 rfl ?_
    refine V_aload_n X dX1_urgent_5 0 rfl ?_
    obtain ⟨i6, hvi6, hki6, h⟩ := rdR_some h
    refine V_get (ci := 0) (N := 18) (C := RX1) (T := TX1) (o := 0) (j := 12) X rfl in_X1 (by decide) (hW.at 0 rfl) (by decide) q489 (fv_3i rfl hvi6) dX1_urgent_6 ?_
    refine V_getN (ci := 8) (N := 24) (C := RX9) (T := TX9) (o := i6) (j := 14) X rfl in_X9 (by decide) hki6 (by decide) q404 (fv_0 rfl) dX1_urgent_9 ?_
    refine V_icmp_ge (tgt := 35) X dX1_urgent_12 (by decide) h (fun h => ?_) (fun h => ?_)
    · obtain ⟨e1, h, e1q⟩ := outR_some h
      replace h := h.trans (congrArg some (he4 _ e1q))
      refine V_iload_n X dX1_urgent_35 1 rfl ?_
      have hr := Option.some.inj h
      subst hr
      exact V_end_i hX rfl dX1_urgent_36
    · refine V_aload_n X dX1_urgent_15 0 rfl ?_
      refine V_iload_n X dX1_urgent_16 2 rfl ?_
      obtain ⟨c17, hc17, h⟩ := bind_some_eq h
      refine V_callV (ci := 0) (N := 18) (T := TX1) (As := [vI l2]) (rest := []) (s1 := [vI c17.1]) (o := 0) X (con_x_slackOf K hW N g l2 c17 hc17) gwX1_slackOf_308 hdV_X1_slackOf (by decide) rfl (by decide) (hW.at 0 rfl) rfl rfl (Nat.le_of_ble_eq_true rfl) ⟨Nat.zero_le _, Nat.zero_le _⟩ dX1_urgent_17 rfl rfl ?_
      refine V_if_ne (tgt := 29) X dX1_urgent_20 (by decide) h (fun h => ?_) (fun h => ?_)
      · refine V_iinc X dX1_urgent_29 2 rfl (by decide) (L' := [(2, vI (l2 + 1)), (0, .ref (xb x + 0)), (1, vI l1)]) rfl ?_
        refine V_goto (tgt := 4) X dX1_urgent_32 (by decide) ?_
        exact V_sub [1, 2, 0] rfl (hc4 _ (Option.some.inj h).symm)
      · refine V_iload_n X dX1_urgent_23 1 rfl ?_
        refine V_iconst X dX1_urgent_24 ?_
        refine V_iload_n X dX1_urgent_25 2 rfl ?_
        refine V_ishl X dX1_urgent_26 ?_
        refine V_ior X dX1_urgent_27 ?_
        refine V_istore_n X dX1_urgent_28 (by decide) (L' := [(1, vI (i_or l1 (i_shl 1 l2))), (0, .ref (xb x + 0)), (2, vI l2)]) rfl ?_
        refine V_iinc X dX1_urgent_29 2 rfl (by decide) (L' := [(2, vI (l2 + 1)), (1, vI (i_or l1 (i_shl 1 l2))), (0, .ref (xb x + 0))]) rfl ?_
        refine V_goto (tgt := 4) X dX1_urgent_32 (by decide) ?_
        exact V_sub [2, 1, 0] rfl (hc4 _ (Option.some.inj h).symm)
  unfold x_urgent at h
  show V x 3 K 0 0 sz g 0 [(0, .ref (xb x + 0))] []
  refine V_iconst X dX1_urgent_0 ?_
  refine V_istore_n X dX1_urgent_1 (by decide) (L' := [(1, vI 0), (0, .ref (xb x + 0))]) rfl ?_
  refine V_iconst X dX1_urgent_2 ?_
  refine V_istore_n X dX1_urgent_3 (by decide) (L' := [(2, vI 0), (1, vI 0), (0, .ref (xb x + 0))]) rfl ?_
  exact V_sub [2, 1, 0] rfl (LL4 N (g, 0, 0) _ h rfl)
set_option maxHeartbeats 4000000 in
theorem con_xSoonest_tries_F (K : Nat → Nat) (hW : WFK K) (N : Nat) (l1 : Nat) (hK1 : K l1 = 9) (fr lo : Nat) (R_tries : GS → Int → Int → Option GS) (H_tries : ∀ (g : GS) (a1 a2 : Int) (r : GS), R_tries g a1 a2 = some r → Con yX6_tries cX6_tries 7 none fr lo K (fun b => [.ref (b + 22), .ref (b + l1), vI a1, vI a2]) g (fun _ => none) r) (g : GS) (l2 : Int) (l3 : Int) (r : GS) (h : xSoonest_tries_F N K R_tries l1 g l2 l3 = some r) : Con yX6_tries cX6_tries 7 none (fr + 210) (lo + 5031) K (fun b => [.ref (b + 22), .ref (b + l1), vI l2, vI l3]) g (fun _ => none) r := by
  refine Con.of RX6 (by decide) rfl (fun b => Nat.le_of_ble_eq_true rfl) (fun x sz hX => ?_)
  have X := hX.1
  have LL120 : ∀ (l2 : Int) (l3 : Int) (l4 : Nat) (hKl4 : K l4 = 4) (n : Nat) (s : (GS × Int)) (e : GS), loopN (fun s => xSoonest_tries_F_b120 N K R_tries l1 l2 l3 l4 s.1 s.2) n s = some e → (e = r) → V x 7 K 0 0 sz s.1 120 [(0, .ref (xb x + 22)), (1, .ref (xb x + l1)), (2, vI l2), (3, vI l3), (4, .ref (xb x + l4)), (5, vI s.2)] [] := by
    intro l2 l3 l4 hKl4 n s e
    refine loop_walk (P := fun s => V x 7 K 0 0 sz s.1 120 [(0, .ref (xb x + 22)), (1, .ref (xb x + l1)), (2, vI l2), (3, vI l3), (4, .ref (xb x + l4)), (5, vI s.2)] []) (E := fun e => e = r) ?_ n s e
    clear e s n
    rintro ⟨g, l5⟩ q120 h hc120 he120
    replace h : xSoonest_tries_F_b120 N K R_tries l1 l2 l3 l4 g l5 = some q120 := h
    have LL145 : ∀ (l5 : Int) (n : Nat) (s : (GS × Int)) (e : (GS)), loopN (fun s => xSoonest_tries_F_b145 N K R_tries l1 l2 l3 l4 l5 s.1 s.2) n s = some e → V x 7 K 0 0 sz e 219 [(0, .ref (xb x + 22)), (1, .ref (xb x + l1)), (2, vI l2), (3, vI l3), (4, .ref (xb x + l4)), (5, vI l5)] [] → V x 7 K 0 0 sz s.1 145 [(0, .ref (xb x + 22)), (1, .ref (xb x + l1)), (2, vI l2), (3, vI l3), (4, .ref (xb x + l4)), (5, vI l5), (6, vI s.2)] [] := by
      intro l5 n s e
      refine loop_walk (P := fun s => V x 7 K 0 0 sz s.1 145 [(0, .ref (xb x + 22)), (1, .ref (xb x + l1)), (2, vI l2), (3, vI l3), (4, .ref (xb x + l4)), (5, vI l5), (6, vI s.2)] []) (E := fun e => V x 7 K 0 0 sz e 219 [(0, .ref (xb x + 22)), (1, .ref (xb x + l1)), (2, vI l2), (3, vI l3), (4, .ref (xb x + l4)), (5, vI l5)] []) ?_ n s e
      clear e s n
      rintro ⟨g, l6⟩ q145 h hc145 he145
      replace h : xSoonest_tries_F_b145 N K R_tries l1 l2 l3 l4 l5 g l6 = some q145 := h
      unfold xSoonest_tries_F_b145 at h
      show V x 7 K 0 0 sz g 145 [(0, .ref (xb x + 22)), (1, .ref (xb x + l1)), (2, vI l2), (3, vI l3), (4, .ref (xb x + l4)), (5, vI l5), (6, vI l6)] []
      refine V_iload X dX6_tries_145 6 rfl ?_
      refine V_iconst X dX6_tries_147 ?_
      refine V_aload_n X dX6_tries_148 1 rfl ?_
      refine V_getN (ci := 8) (N := 24) (C := RX9) (T := TX9) (o := l1) (j := 13) X rfl in_X9 (by decide) hK1 (by decide) q396 (fv_0 rfl) dX6_tries_149 ?_
      refine V_ishl X dX6_tries_152 ?_
      refine V_icmp_ge (tgt := 219) X dX6_tries_153 (by decide) h (fun h => ?_) (fun h => ?_)
      · exact V_sub [0, 1, 2, 3, 4, 5] rfl (he145 _ (Option.some.inj h).symm)
      · refine V_aload_n X dX6_tries_156 0 rfl ?_
        refine V_get (ci := 5) (N := 7) (C := RX6) (T := TX6) (o := 22) (j := 0) X rfl in_X6 (by decide) (hW.at 22 rfl) (by decide) q279 (fv_1 (i := 23) rfl rfl) dX6_tries_157 ?_
        refine V_iload_n X dX6_tries_160 2 rfl ?_
        refine V_iconst X dX6_tries_161 ?_
        refine V_iadd X dX6_tries_162 ?_
        obtain ⟨i163, hni163, hvi163, hki163, h⟩ := rdQ_some h
        refine V_aald (o := 23) (t := 6) (n := 6) X (by decide) (by decide) (hW.at 23 rfl) (by decide) hni163 hvi163 dX6_tries_163 ?_
        refine V_aload X dX6_tries_164 4 rfl ?_
        obtain ⟨c166, hc166, h⟩ := bind_some_eq h
        refine V_callV (ci := 3) (N := 15) (T := TX4) (As := [.ref (xb x + l4)]) (rest := []) (s1 := [.ref (xb x + i163)]) (o := i163) X (con_xWatch_as K hW i163 hki163 l4 hKl4 g c166 hc166) gwX6_as_67 hdV_X4_as ⟨by dsimp only; omega, by dsimp only; omega⟩ rfl (by decide) hki163 rfl rfl (Nat.le_of_ble_eq_true rfl) ⟨Nat.zero_le _, Nat.zero_le _⟩ dX6_tries_166 rfl rfl ?_
        refine V_iload_n X dX6_tries_169 2 rfl ?_
        refine V_iload X dX6_tries_170 5 rfl ?_
        refine V_iload X dX6_tries_172 6 rfl ?_
        obtain ⟨c174, hc174, h⟩ := bind_some_eq h
        refine V_callV (ci := 3) (N := 15) (T := TX4) (As := [vI l2, vI l5, vI l6]) (rest := []) (s1 := [vI c174.1]) (o := i163) X (con_xWatch_comes K hW N i163 hki163 c166 l2 l5 l6 c174 hc174) gwX6_comes_71 hdV_X4_comes ⟨by dsimp only; omega, by dsimp only; omega⟩ rfl (by decide) hki163 rfl rfl (Nat.le_of_ble_eq_true rfl) ⟨Nat.zero_le _, Nat.zero_le _⟩ dX6_tries_174 rfl rfl ?_
        refine V_if_ne (tgt := 183) X dX6_tries_177 (by decide) h (fun h => ?_) (fun h => ?_)
        · refine V_aload_n X dX6_tries_183 0 rfl ?_
          refine V_get (ci := 5) (N := 7) (C := RX6) (T := TX6) (o := 22) (j := 1) X rfl in_X6 (by decide) (hW.at 22 rfl) (by decide) q280 (fv_1 (i := 24) rfl rfl) dX6_tries_184 ?_
          refine V_iload_n X dX6_tries_187 2 rfl ?_
          refine V_iload X dX6_tries_188 5 rfl ?_
          refine V_iast X (o := 24) (n := 5) (hW.at 24 rfl) (by decide) dX6_tries_190 h (fun g190 h => ?_)
          refine V_aload_n X dX6_tries_191 0 rfl ?_
          refine V_get (ci := 5) (N := 7) (C := RX6) (T := TX6) (o := 22) (j := 2) X rfl in_X6 (by decide) (hW.at 22 rfl) (by decide) q281 (fv_1 (i := 25) rfl rfl) dX6_tries_192 ?_
          refine V_iload_n X dX6_tries_195 2 rfl ?_
          refine V_iload X dX6_tries_196 6 rfl ?_
          refine V_iast X (o := 25) (n := 5) (hW.at 25 rfl) (by decide) dX6_tries_198 h (fun g198 h => ?_)
          refine V_aload_n X dX6_tries_199 0 rfl ?_
          refine V_aload_n X dX6_tries_200 1 rfl ?_
          refine V_iload_n X dX6_tries_201 2 rfl ?_
          refine V_iconst X dX6_tries_202 ?_
          refine V_iadd X dX6_tries_203 ?_
          refine V_iload_n X dX6_tries_204 3 rfl ?_
          refine V_iconst X dX6_tries_205 ?_
          refine V_iload X dX6_tries_206 5 rfl ?_
          refine V_ishl X dX6_tries_208 ?_
          refine V_ior X dX6_tries_209 ?_
          obtain ⟨c210, hc210, h⟩ := bind_some_eq h
          refine V_callV (ci := 5) (N := 7) (T := TX6) (As := [.ref (xb x + l1), vI (l2 + 1), vI (i_or l3 (i_shl 1 l5))]) (rest := []) (s1 := []) (o := 22) X (H_tries g198 (l2 + 1) (i_or l3 (i_shl 1 l5)) c210 hc210) gwX6_tries_41 hdV_X6_tries ⟨by dsimp only; omega, by dsimp only; omega⟩ rfl (by decide) (hW.at 22 rfl) rfl rfl (Nat.le_of_ble_eq_true rfl) ⟨Nat.zero_le _, Nat.zero_le _⟩ dX6_tries_210 rfl rfl ?_
          refine V_iinc X dX6_tries_213 6 rfl (by decide) (L' := [(6, vI (l6 + 1)), (0, .ref (xb x + 22)), (1, .ref (xb x + l1)), (2, vI l2), (3, vI l3), (4, .ref (xb x + l4)), (5, vI l5)]) rfl ?_
          refine V_goto (tgt := 145) X dX6_tries_216 (by decide) ?_
          exact V_sub [1, 2, 3, 4, 5, 6, 0] rfl (hc145 _ (Option.some.inj h).symm)
        · refine V_goto (tgt := 213) X dX6_tries_180 (by decide) ?_
          refine V_iinc X dX6_tries_213 6 rfl (by decide) (L' := [(6, vI (l6 + 1)), (0, .ref (xb x + 22)), (1, .ref (xb x + l1)), (2, vI l2), (3, vI l3), (4, .ref (xb x + l4)), (5, vI l5)]) rfl ?_
          refine V_goto (tgt := 145) X dX6_tries_216 (by decide) ?_
          exact V_sub [1, 2, 3, 4, 5, 6, 0] rfl (hc145 _ (Option.some.inj h).symm)
    unfold xSoonest_tries_F_b120 at h
    show V x 7 K 0 0 sz g 120 [(0, .ref (xb x + 22)), (1, .ref (xb x + l1)), (2, vI l2), (3, vI l3), (4, .ref (xb x + l4)), (5, vI l5)] []
    refine V_iload X dX6_tries_120 5 rfl ?_
    refine V_aload_n X dX6_tries_122 1 rfl ?_
    refine V_getN (ci := 8) (N := 24) (C := RX9) (T := TX9) (o := l1) (j := 14) X rfl in_X9 (by decide) hK1 (by decide) q402 (fv_0 rfl) dX6_tries_123 ?_
    refine V_icmp_ge (tgt := 225) X dX6_tries_126 (by decide) h (fun h => ?_) (fun h => ?_)
    · obtain ⟨e1, h, e1q⟩ := outR_some h
      replace h := h.trans (congrArg some (he120 _ e1q))
      have hr := Option.some.inj h
      subst hr
      exact V_end_v hX rfl dX6_tries_225
    · refine V_iload_n X dX6_tries_129 3 rfl ?_
      refine V_iload X dX6_tries_130 5 rfl ?_
      refine V_ishr X dX6_tries_132 ?_
      refine V_iconst X dX6_tries_133 ?_
      refine V_iand X dX6_tries_134 ?_
      refine V_iconst X dX6_tries_135 ?_
      refine V_icmp_ne (tgt := 142) X dX6_tries_136 (by decide) h (fun h => ?_) (fun h => ?_)
      · refine V_iconst X dX6_tries_142 ?_
        refine V_istore X dX6_tries_143 (by decide) (L' := [(6, vI 1), (0, .ref (xb x + 22)), (1, .ref (xb x + l1)), (2, vI l2), (3, vI l3), (4, .ref (xb x + l4)), (5, vI l5)]) rfl ?_
        obtain ⟨t2, t2q, h⟩ := bind_some_eq h
        refine V_sub [1, 2, 3, 4, 5, 6, 0] rfl (LL145 l5 N (g, 1) _ t2q ?_)
        refine V_iinc X dX6_tries_219 5 rfl (by decide) (L' := [(5, vI (l5 + 1)), (0, .ref (xb x + 22)), (1, .ref (xb x + l1)), (2, vI l2), (3, vI l3), (4, .ref (xb x + l4))]) rfl ?_
        refine V_goto (tgt := 120) X dX6_tries_222 (by decide) ?_
        exact V_sub [1, 2, 3, 4, 5, 0] rfl (hc120 _ (Option.some.inj h).symm)
      · refine V_goto (tgt := 219) X dX6_tries_139 (by decide) ?_
        refine V_iinc X dX6_tries_219 5 rfl (by decide) (L' := [(5, vI (l5 + 1)), (0, .ref (xb x + 22)), (1, .ref (xb x + l1)), (2, vI l2), (3, vI l3), (4, .ref (xb x + l4))]) rfl ?_
        refine V_goto (tgt := 120) X dX6_tries_222 (by decide) ?_
        exact V_sub [1, 2, 3, 4, 5, 0] rfl (hc120 _ (Option.some.inj h).symm)
  have J70 : ∀ (g : GS) (l4 : Nat) (hKl4 : K l4 = 4), xSoonest_tries_F_j70 N K R_tries l1 g l4 = some r → V x 7 K 0 0 sz g 70 [(0, .ref (xb x + 22)), (4, .ref (xb x + l4))] [] := by
    intro g l4 hKl4 h
    unfold xSoonest_tries_F_j70 at h
    refine V_aload_n X dX6_tries_70 0 rfl ?_
    refine V_aload X dX6_tries_71 1 rfl ?_
    refine V_getN (ci := 3) (N := 15) (C := RX4) (T := TX4) (o := l4) (j := 9) X rfl in_X4 (by decide) hKl4 (by decide) q231 (fv_0 rfl) dX6_tries_73 ?_
    refine V_put (ty := .int) (ci := 5) (N := 7) (C := RX6) (T := TX6) (o := 22) (j := 5) (a := (gI g 309 l4)) X rfl in_X6 tyX6 tyX6_ok nmX6 (by decide) (hW.at 22 rfl) (by decide) rfl pfd_I rfl rfl q286 (by rw [fv_0 rfl, gI_sI, if_pos ⟨rfl, rfl⟩]) dX6_tries_76 ?_
    refine V_aload_n X dX6_tries_79 0 rfl ?_
    refine V_aload X dX6_tries_80 1 rfl ?_
    obtain ⟨c82, hc82, h⟩ := bind_some_eq h
    refine V_callV (ci := 3) (N := 15) (T := TX4) (As := []) (rest := [.ref (xb x + 22)]) (s1 := [vI c82, .ref (xb x + 22)]) (o := l4) X (con_xWatch_allWet K hW N l4 hKl4 (sI g 505 22 (gI g 309 l4)) c82 hc82) gwX6_allWet_51 hdV_X4_allWet ⟨by dsimp only; omega, by dsimp only; omega⟩ rfl (by decide) hKl4 rfl rfl (Nat.le_of_ble_eq_true rfl) ⟨Nat.zero_le _, Nat.zero_le _⟩ dX6_tries_82 rfl rfl ?_
    refine V_put (ty := .int) (ci := 5) (N := 7) (C := RX6) (T := TX6) (o := 22) (j := 6) (a := c82) X rfl in_X6 tyX6 tyX6_ok nmX6 (by decide) (hW.at 22 rfl) (by decide) rfl pfd_I rfl rfl q288 (by rw [fv_0 rfl, gI_sI, if_pos ⟨rfl, rfl⟩]) dX6_tries_85 ?_
    refine V_aload_n X dX6_tries_88 0 rfl ?_
    refine V_get (ci := 5) (N := 7) (C := RX6) (T := TX6) (o := 22) (j := 1) X rfl in_X6 (by decide) (hW.at 22 rfl) (by decide) q280 (fv_1 (i := 24) rfl rfl) dX6_tries_89 ?_
    refine V_iconst X dX6_tries_92 ?_
    refine V_aload_n X dX6_tries_93 0 rfl ?_
    refine V_get (ci := 5) (N := 7) (C := RX6) (T := TX6) (o := 22) (j := 3) X rfl in_X6 (by decide) (hW.at 22 rfl) (by decide) q282 (fv_1 (i := 26) rfl rfl) dX6_tries_94 ?_
    refine V_iconst X dX6_tries_97 ?_
    refine V_iconst X dX6_tries_98 ?_
    refine V_acopy (s0 := 24) (d0 := 26) (n0 := 5) (n1 := 5) (n := 5) X q1295 (hW.at 24 rfl) (by decide) (hW.at 26 rfl) (by decide) (by decide) (by decide) (by dsimp only; omega) (by dsimp only; omega) dX6_tries_99 ?_
    refine V_aload_n X dX6_tries_102 0 rfl ?_
    refine V_get (ci := 5) (N := 7) (C := RX6) (T := TX6) (o := 22) (j := 2) X rfl in_X6 (by decide) (hW.at 22 rfl) (by decide) q281 (fv_1 (i := 25) rfl rfl) dX6_tries_103 ?_
    refine V_iconst X dX6_tries_106 ?_
    refine V_aload_n X dX6_tries_107 0 rfl ?_
    refine V_get (ci := 5) (N := 7) (C := RX6) (T := TX6) (o := 22) (j := 4) X rfl in_X6 (by decide) (hW.at 22 rfl) (by decide) q284 (fv_1 (i := 27) rfl rfl) dX6_tries_108 ?_
    refine V_iconst X dX6_tries_111 ?_
    refine V_iconst X dX6_tries_112 ?_
    refine V_acopy (s0 := 25) (d0 := 27) (n0 := 5) (n1 := 5) (n := 5) X q1295 (hW.at 25 rfl) (by decide) (hW.at 27 rfl) (by decide) (by decide) (by decide) (by dsimp only; omega) (by dsimp only; omega) dX6_tries_113 ?_
    have hr := Option.some.inj h
    subst hr
    exact V_end_v hX rfl dX6_tries_116
  have J29 : ∀ (g : GS) (l2 : Int) (l3 : Int) (l4 : Nat) (hKl4 : K l4 = 4), xSoonest_tries_F_j29 N K R_tries l1 g l2 l3 l4 = some r → V x 7 K 0 0 sz g 29 [(0, .ref (xb x + 22)), (1, .ref (xb x + l1)), (2, vI l2), (3, vI l3), (4, .ref (xb x + l4))] [] := by
    intro g l2 l3 l4 hKl4 h
    unfold xSoonest_tries_F_j29 at h
    refine V_iload_n X dX6_tries_29 2 rfl ?_
    refine V_aload_n X dX6_tries_30 1 rfl ?_
    refine V_getN (ci := 8) (N := 24) (C := RX9) (T := TX9) (o := l1) (j := 14) X rfl in_X9 (by decide) hK1 (by decide) q402 (fv_0 rfl) dX6_tries_31 ?_
    refine V_icmp_ne (tgt := 117) X dX6_tries_34 (by decide) h (fun h => ?_) (fun h => ?_)
    · refine V_iconst X dX6_tries_117 ?_
      refine V_istore X dX6_tries_118 (by decide) (L' := [(5, vI 0), (0, .ref (xb x + 22)), (1, .ref (xb x + l1)), (2, vI l2), (3, vI l3), (4, .ref (xb x + l4))]) rfl ?_
      exact V_sub [1, 2, 3, 4, 5, 0] rfl (LL120 l2 l3 l4 hKl4 N (g, 0) _ h rfl)
    · refine V_aload_n X dX6_tries_37 0 rfl ?_
      refine V_get (ci := 5) (N := 7) (C := RX6) (T := TX6) (o := 22) (j := 5) X rfl in_X6 (by decide) (hW.at 22 rfl) (by decide) q286 (fv_0 rfl) dX6_tries_38 ?_
      refine V_iconst X dX6_tries_41 ?_
      refine V_icmp_eq (tgt := 70) X dX6_tries_42 (by decide) h (fun h => ?_) (fun h => ?_)
      · exact V_sub [0, 4] rfl (J70 _ _ hKl4 h)
      · refine V_aload X dX6_tries_45 4 rfl ?_
        refine V_getN (ci := 3) (N := 15) (C := RX4) (T := TX4) (o := l4) (j := 9) X rfl in_X4 (by decide) hKl4 (by decide) q231 (fv_0 rfl) dX6_tries_47 ?_
        refine V_aload_n X dX6_tries_50 0 rfl ?_
        refine V_get (ci := 5) (N := 7) (C := RX6) (T := TX6) (o := 22) (j := 5) X rfl in_X6 (by decide) (hW.at 22 rfl) (by decide) q286 (fv_0 rfl) dX6_tries_51 ?_
        refine V_icmp_ne (tgt := 70) X dX6_tries_54 (by decide) h (fun h => ?_) (fun h => ?_)
        · exact V_sub [0, 4] rfl (J70 _ _ hKl4 h)
        · refine V_aload X dX6_tries_57 4 rfl ?_
          obtain ⟨c59, hc59, h⟩ := bind_some_eq h
          refine V_callV (ci := 3) (N := 15) (T := TX4) (As := []) (rest := []) (s1 := [vI c59]) (o := l4) X (con_xWatch_allWet K hW N l4 hKl4 g c59 hc59) gwX6_allWet_51 hdV_X4_allWet ⟨by dsimp only; omega, by dsimp only; omega⟩ rfl (by decide) hKl4 rfl rfl (Nat.le_of_ble_eq_true rfl) ⟨Nat.zero_le _, Nat.zero_le _⟩ dX6_tries_59 rfl rfl ?_
          refine V_aload_n X dX6_tries_62 0 rfl ?_
          refine V_get (ci := 5) (N := 7) (C := RX6) (T := TX6) (o := 22) (j := 6) X rfl in_X6 (by decide) (hW.at 22 rfl) (by decide) q288 (fv_0 rfl) dX6_tries_63 ?_
          refine V_icmp_lt (tgt := 70) X dX6_tries_66 (by decide) h (fun h => ?_) (fun h => ?_)
          · exact V_sub [0, 4] rfl (J70 _ _ hKl4 h)
          · have hr := Option.some.inj h
            subst hr
            exact V_end_v hX rfl dX6_tries_69
  unfold xSoonest_tries_F at h
  show V x 7 K 0 0 sz g 0 [(0, .ref (xb x + 22)), (1, .ref (xb x + l1)), (2, vI l2), (3, vI l3)] []
  refine V_aload_n X dX6_tries_0 0 rfl ?_
  refine V_get (ci := 5) (N := 7) (C := RX6) (T := TX6) (o := 22) (j := 0) X rfl in_X6 (by decide) (hW.at 22 rfl) (by decide) q279 (fv_1 (i := 23) rfl rfl) dX6_tries_1 ?_
  refine V_iload_n X dX6_tries_4 2 rfl ?_
  obtain ⟨i5, hni5, hvi5, hki5, h⟩ := rdQ_some h
  refine V_aald (o := 23) (t := 6) (n := 6) X (by decide) (by decide) (hW.at 23 rfl) (by decide) hni5 hvi5 dX6_tries_5 ?_
  refine V_astore X dX6_tries_6 (by decide) (L' := [(4, .ref (xb x + i5)), (0, .ref (xb x + 22)), (1, .ref (xb x + l1)), (2, vI l2), (3, vI l3)]) rfl ?_
  refine V_aload_n X dX6_tries_8 1 rfl ?_
  refine V_get (ci := 5) (N := 7) (C := RX6) (T := TX6) (o := 22) (j := 5) X rfl in_X6 (by decide) (hW.at 22 rfl) (by decide) q286 (fv_0 rfl) dX6_tries_9 ?_
  refine V_iconst X dX6_tries_12 ?_
  refine V_icmp_eq (tgt := 29) X dX6_tries_13 (by decide) h (fun h => ?_) (fun h => ?_)
  · exact V_sub [1, 2, 3, 4, 0] rfl (J29 _ _ _ _ hki5 h)
  · refine V_aload X dX6_tries_16 0 rfl ?_
    refine V_getN (ci := 3) (N := 15) (C := RX4) (T := TX4) (o := i5) (j := 9) X rfl in_X4 (by decide) hki5 (by decide) q231 (fv_0 rfl) dX6_tries_18 ?_
    refine V_aload_n X dX6_tries_21 1 rfl ?_
    refine V_get (ci := 5) (N := 7) (C := RX6) (T := TX6) (o := 22) (j := 5) X rfl in_X6 (by decide) (hW.at 22 rfl) (by decide) q286 (fv_0 rfl) dX6_tries_22 ?_
    refine V_icmp_le (tgt := 29) X dX6_tries_25 (by decide) h (fun h => ?_) (fun h => ?_)
    · exact V_sub [1, 2, 3, 4, 0] rfl (J29 _ _ _ _ hki5 h)
    · have hr := Option.some.inj h
      subst hr
      exact V_end_v hX rfl dX6_tries_28
theorem con_xSoonest_tries_R (K : Nat → Nat) (hW : WFK K) (N : Nat) (l1 : Nat) (hK1 : K l1 = 9) : ∀ (d : Nat) (g : GS) (a1 a2 : Int) (r : GS), xSoonest_tries_R N K l1 d g a1 a2 = some r → Con yX6_tries cX6_tries 7 none (d * 210) (d * 5031) K (fun b => [.ref (b + 22), .ref (b + l1), vI a1, vI a2]) g (fun _ => none) r := by
  intro d
  induction d with
  | zero => intro g a1 a2 r h; cases h
  | succ d ih =>
    intro g a1 a2 r h
    have h2 := con_xSoonest_tries_F K hW N l1 hK1 (d * 210) (d * 5031) (xSoonest_tries_R N K l1 d) ih g a1 a2 r h
    rwa [show d * 210 + 210 = (d + 1) * 210 by omega, show d * 5031 + 5031 = (d + 1) * 5031 by omega] at h2
theorem con_xSoonest_tries (K : Nat → Nat) (hW : WFK K) (N : Nat) (l1 : Nat) (hK1 : K l1 = 9) (g : GS) (a1 a2 : Int) (r : GS) (h : xSoonest_tries N K l1 g a1 a2 = some r) : Con yX6_tries cX6_tries 7 none 1680 40248 K (fun b => [.ref (b + 22), .ref (b + l1), vI a1, vI a2]) g (fun _ => none) r := con_xSoonest_tries_R K hW N l1 hK1 8 g a1 a2 r h
set_option maxHeartbeats 4000000 in
theorem con_xSoonest_finds (K : Nat → Nat) (hW : WFK K) (N : Nat) (l1 : Nat) (hK1 : K l1 = 9) (g : GS) (r : GS) (h : xSoonest_finds N K l1 g = some r) : Con yX6_finds cX6_finds 2 none 1681 40274 K (fun b => [.ref (b + 22), .ref (b + l1)]) g (fun _ => none) r := by
  refine Con.of RX6 (by decide) rfl (fun b => Nat.le_of_ble_eq_true rfl) (fun x sz hX => ?_)
  have X := hX.1
  unfold xSoonest_finds at h
  show V x 2 K 0 0 sz g 0 [(0, .ref (xb x + 22)), (1, .ref (xb x + l1))] []
  refine V_aload_n X dX6_finds_0 0 rfl ?_
  refine V_iconst X dX6_finds_1 ?_
  refine V_put (ty := .int) (ci := 5) (N := 7) (C := RX6) (T := TX6) (o := 22) (j := 5) (a := (-1)) X rfl in_X6 tyX6 tyX6_ok nmX6 (by decide) (hW.at 22 rfl) (by decide) rfl pfd_I rfl rfl q286 (by rw [fv_0 rfl, gI_sI, if_pos ⟨rfl, rfl⟩]) dX6_finds_2 ?_
  refine V_aload_n X dX6_finds_5 0 rfl ?_
  refine V_get (ci := 5) (N := 7) (C := RX6) (T := TX6) (o := 22) (j := 0) X rfl in_X6 (by decide) (hW.at 22 rfl) (by decide) q279 (fv_1 (i := 23) rfl rfl) dX6_finds_6 ?_
  refine V_iconst X dX6_finds_9 ?_
  obtain ⟨i10, hni10, hvi10, hki10, h⟩ := rdQ_some h
  refine V_aald (o := 23) (t := 6) (n := 6) X (by decide) (by decide) (hW.at 23 rfl) (by decide) hni10 hvi10 dX6_finds_10 ?_
  refine V_aload_n X dX6_finds_11 1 rfl ?_
  obtain ⟨c12, hc12, h⟩ := bind_some_eq h
  refine V_callV (ci := 3) (N := 15) (T := TX4) (As := [.ref (xb x + l1)]) (rest := []) (s1 := [.ref (xb x + i10)]) (o := i10) X (con_xWatch_starts K hW N i10 hki10 l1 hK1 (sI g 505 22 (-1)) c12 hc12) gwX6_starts_37 hdV_X4_starts (by decide) rfl (by decide) hki10 rfl rfl (Nat.le_of_ble_eq_true rfl) ⟨Nat.zero_le _, Nat.zero_le _⟩ dX6_finds_12 rfl rfl ?_
  refine V_pop X dX6_finds_15 rfl ?_
  refine V_aload_n X dX6_finds_16 0 rfl ?_
  refine V_aload_n X dX6_finds_17 1 rfl ?_
  refine V_iconst X dX6_finds_18 ?_
  refine V_iconst X dX6_finds_19 ?_
  obtain ⟨c20, hc20, h⟩ := bind_some_eq h
  refine V_callV (ci := 5) (N := 7) (T := TX6) (As := [.ref (xb x + l1), vI 0, vI 0]) (rest := []) (s1 := []) (o := 22) X (con_xSoonest_tries K hW N l1 hK1 c12 0 0 c20 hc20) gwX6_tries_41 hdV_X6_tries (by decide) rfl (by decide) (hW.at 22 rfl) rfl rfl (Nat.le_of_ble_eq_true rfl) ⟨Nat.zero_le _, Nat.zero_le _⟩ dX6_finds_20 rfl rfl ?_
  have hr := Option.some.inj h
  subst hr
  exact V_end_v hX rfl dX6_finds_23
set_option maxHeartbeats 4000000 in
theorem con_x_lost (K : Nat → Nat) (hW : WFK K) (N : Nat) (g : GS) (l1 : Int) (r : GS) (h : x_lost N K g l1 = some r) : Con yX1_lost cX1_lost 2 (some (.object "RainWheel$Watch")) 210 5013 K (fun b => [.ref (b + 0), vI l1]) g (fun b => some (.ref (b + 14))) r := by
  refine Con.of RX1 (by decide) rfl (fun b => Nat.le_of_ble_eq_true rfl) (fun x sz hX => ?_)
  have X := hX.1
  unfold x_lost at h
  show V x 2 K 0 0 sz g 0 [(0, .ref (xb x + 0)), (1, vI l1)] []
  refine V_aload_n X dX1_lost_0 0 rfl ?_
  refine V_get (ci := 0) (N := 18) (C := RX1) (T := TX1) (o := 0) (j := 8) X rfl in_X1 (by decide) (hW.at 0 rfl) (by decide) q485 (fv_1 (i := 14) rfl rfl) dX1_lost_1 ?_
  refine V_aload_n X dX1_lost_4 0 rfl ?_
  obtain ⟨i5, hvi5, hki5, h⟩ := rdR_some h
  refine V_get (ci := 0) (N := 18) (C := RX1) (T := TX1) (o := 0) (j := 12) X rfl in_X1 (by decide) (hW.at 0 rfl) (by decide) q489 (fv_3i rfl hvi5) dX1_lost_5 ?_
  obtain ⟨c8, hc8, h⟩ := bind_some_eq h
  refine V_callV (ci := 3) (N := 15) (T := TX4) (As := [.ref (xb x + i5)]) (rest := []) (s1 := [.ref (xb x + 14)]) (o := 14) X (con_xWatch_starts K hW N 14 (hW.at 14 rfl) i5 hki5 g c8 hc8) gwX1_starts_265 hdV_X4_starts (by decide) rfl (by decide) (hW.at 14 rfl) rfl rfl (Nat.le_of_ble_eq_true rfl) ⟨Nat.zero_le _, Nat.zero_le _⟩ dX1_lost_8 rfl rfl ?_
  refine V_iload_n X dX1_lost_11 1 rfl ?_
  obtain ⟨c12, hc12, h⟩ := bind_some_eq h
  refine V_callV (ci := 3) (N := 15) (T := TX4) (As := [vI l1]) (rest := []) (s1 := [.ref (xb x + 14)]) (o := 14) X (con_xWatch_losing K hW 14 (hW.at 14 rfl) c8 l1 c12 hc12) gwX1_losing_413 hdV_X4_losing (by decide) rfl (by decide) (hW.at 14 rfl) rfl rfl (Nat.le_of_ble_eq_true rfl) ⟨Nat.zero_le _, Nat.zero_le _⟩ dX1_lost_12 rfl rfl ?_
  refine V_aload_n X dX1_lost_15 0 rfl ?_
  refine V_get (ci := 0) (N := 18) (C := RX1) (T := TX1) (o := 0) (j := 2) X rfl in_X1 (by decide) (hW.at 0 rfl) (by decide) q479 (fv_1 (i := 3) rfl rfl) dX1_lost_16 ?_
  obtain ⟨c19, hc19, h⟩ := bind_some_eq h
  refine V_callV (ci := 3) (N := 15) (T := TX4) (As := [.ref (xb x + 3)]) (rest := []) (s1 := [.ref (xb x + 14)]) (o := 14) X (con_xWatch_goes K hW N 14 (hW.at 14 rfl) 3 (hW.at 3 rfl) c12 c19 hc19) gwX1_goes_269 hdV_X4_goes (by decide) rfl (by decide) (hW.at 14 rfl) rfl rfl (Nat.le_of_ble_eq_true rfl) ⟨Nat.zero_le _, Nat.zero_le _⟩ dX1_lost_19 rfl rfl ?_
  have hr := Option.some.inj h
  subst hr
  exact V_end_a hX rfl dX1_lost_22
