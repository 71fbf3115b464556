set_option maxRecDepth 100000
theorem hdS_X12_isDigit : yX12_isDigit.cls ≠ "java/lang/invoke/MethodHandle" ∧ yX12_isDigit.cls ≠ "java/lang/invoke/VarHandle" ∧ (parseMethodDescriptor yX12_isDigit.desc).map (fun d => d.parameters.length) = some 1 := by decide +kernel
theorem gwX12_isDigit_50 : GoodIn lw_all (va_wsS RX12 50 yX12_isDigit (ws_ yX12_isDigit cX12_isDigit 1 (some .boolean))) := lw_S q963 q964 q111 q965
theorem hdV_X12_number : yX12_number.cls = RX12 ∧ yX12_number.cls ≠ "java/lang/invoke/MethodHandle" ∧ yX12_number.cls ≠ "java/lang/invoke/VarHandle" ∧ (parseMethodDescriptor yX12_number.desc).map (fun d => d.parameters.length) = some 2 := by decide +kernel
theorem gwX11_number_106 : GoodIn lw_all (wsV RX11 106 RX12 yX12_number (ws_ yX12_number cX12_number 5 (some .int))) := lw_V q959 q960 q961 q111 q962
theorem hdV_X12_sign : yX12_sign.cls = RX12 ∧ yX12_sign.cls ≠ "java/lang/invoke/MethodHandle" ∧ yX12_sign.cls ≠ "java/lang/invoke/VarHandle" ∧ (parseMethodDescriptor yX12_sign.desc).map (fun d => d.parameters.length) = some 1 := by decide +kernel
theorem gwX3_sign_58 : GoodIn lw_all (wsV RX3 58 RX12 yX12_sign (ws_ yX12_sign cX12_sign 2 none)) := lw_V q1111 q983 q984 q111 q985
theorem gwX3_now_28 : GoodIn lw_all (wsV RX3 28 RX12 yX12_now (ws_ yX12_now cX12_now 1 (some .int))) := lw_V q1105 q847 q848 q111 q849
theorem gwX3_place_34 : GoodIn lw_all (wsV RX3 34 RX12 yX12_place (ws_ yX12_place cX12_place 1 (some .int))) := lw_V q1106 q859 q860 q111 q861
theorem gwX3_number_42 : GoodIn lw_all (wsV RX3 42 RX12 yX12_number (ws_ yX12_number cX12_number 5 (some .int))) := lw_V q1107 q960 q961 q111 q962
theorem gwX3_lineOf_46 : GoodIn lw_all (wsV RX3 46 RX3 yX3_lineOf (ws_ yX3_lineOf cX3_lineOf 3 (some .int))) := lw_V q1108 q655 q656 q98 q657
set_option maxHeartbeats 4000000 in
theorem con_xReader_number (K : Nat → Nat) (hW : WFK K) (N : Nat) (o : Nat) (hK0 : K o = 12) (sz : Nat) (hWS : WFS K sz) (g : GS) (l1 : Int) (l2 : Int) (r : ((Nat × GS) ⊕ (Int × GS))) (h : xReader_number N o sz g l1 l2 = some r) : ConX sz yX12_number cX12_number 5 (some .int) 7 160 K (fun b => [.ref (b + o), vI l1, vI l2]) g (fun r => ((fun _ => some (vI r.1)), r.2)) r := by
  refine ConX.of RX12 (by decide) rfl (fun b => Nat.le_of_ble_eq_true rfl) (fun x hX => ?_)
  have X := hX.ok
  have J98 : ∀ (g : GS) (l3 : Int), xReader_number_j98 N o sz g l3 = some r → V x 5 K 0 0 sz g 98 [(3, vI l3)] [] := by
    intro g l3 h
    unfold xReader_number_j98 at h
    have hr := Option.some.inj h
    subst hr
    refine V_new (ci := 12) (N := 8) (C := RX13) (T := TX13) X rfl in_X13 tyX13 tyX13_ok (by decide) (by decide) q966 q924 q116 dfX13 (by rw [hX.2.2.1]; exact Or.inr (Nat.le_refl _)) ⟨Nat.le_of_ble_eq_true rfl, Nat.le_of_ble_eq_true rfl⟩ dX12_number_98 ?_
    have hW := hWS.wk (kd := 13) rfl
    have hK0 := hWS.keep (kd := 13) hK0
    refine V_dup X dX12_number_101 rfl ?_
    refine V_iconst X dX12_number_102 ?_
    refine V_iload_n X dX12_number_103 0 rfl ?_
    refine V_callI (As := [vI 2, vI l3]) (rest := [.ref (xb x + sz)]) (s1 := [.ref (xb x + sz)]) (o := sz) X ((con_Wrong (ku K sz 13) sz ku_self (newI 12 sz g) 2 l3).at1 (sz + 1)) q967 q933 q116 q934 hdI_Wrong ⟨Nat.le_of_ble_eq_true rfl, Nat.le_of_ble_eq_true rfl⟩ rfl rfl (Nat.le_of_ble_eq_true rfl) ⟨Nat.le_of_ble_eq_true rfl, Nat.le_of_ble_eq_true rfl⟩ dX12_number_104 rfl rfl ?_
    exact V_throwO hX ⟨Nat.le_of_ble_eq_true rfl, Nat.le_of_ble_eq_true rfl⟩ dX12_number_107
  have LL35 : ∀ (l1 : Int) (l2 : Int) (l3 : Int) (n : Nat) (s : (GS × Int)) (e : (GS × Int)), loopN (fun s => xReader_number_b35 N o sz l1 l2 l3 s.1 s.2) n s = some e → V x 5 K 0 0 sz e.1 86 [(1, vI l1), (2, vI l2), (3, vI l3), (4, vI e.2)] [] → V x 5 K 0 0 sz s.1 35 [(0, .ref (xb x + o)), (1, vI l1), (2, vI l2), (3, vI l3), (4, vI s.2)] [] := by
    intro l1 l2 l3 n s e
    refine loop_walk (P := fun s => V x 5 K 0 0 sz s.1 35 [(0, .ref (xb x + o)), (1, vI l1), (2, vI l2), (3, vI l3), (4, vI s.2)] []) (E := fun e => V x 5 K 0 0 sz e.1 86 [(1, vI l1), (2, vI l2), (3, vI l3), (4, vI e.2)] []) ?_ n s e
    clear e s n
    rintro ⟨g, l4⟩ q35 h hc35 he35
    replace h : xReader_number_b35 N o sz l1 l2 l3 g l4 = some q35 := h
    unfold xReader_number_b35 at h
    show V x 5 K 0 0 sz g 35 [(0, .ref (xb x + o)), (1, vI l1), (2, vI l2), (3, vI l3), (4, vI l4)] []
    refine V_aload_n X dX12_number_35 0 rfl ?_
    refine V_aload_n X dX12_number_36 0 rfl ?_
    refine V_get (ci := 11) (N := 4) (C := RX12) (T := TX12) (o := o) (j := 2) X rfl in_X12 (by decide) hK0 (by decide) q798 (fv_0 rfl) dX12_number_37 ?_
    obtain ⟨c40, hc40, h⟩ := bind_some_eq h
    refine V_callV (ci := 11) (N := 4) (T := TX12) (As := [vI (gI g 1102 o)]) (rest := []) (s1 := [vI c40]) (o := o) X (con_xReader_byteAt K hW o hK0 g (gI g 1102 o) c40 hc40) gwX12_byteAt_22 hdV_X12_byteAt ⟨Nat.le_of_ble_eq_true rfl, Nat.le_of_ble_eq_true rfl⟩ rfl (by decide) hK0 rfl rfl (Nat.le_of_ble_eq_true rfl) ⟨Nat.zero_le _, Nat.zero_le _⟩ dX12_number_40 rfl rfl ?_
    obtain ⟨c43, hc43, h⟩ := bind_some_eq h
    refine V_callS (As := [vI c40]) (rest := []) (s1 := [vI c43]) X (con_xReader_isDigit K hW g c40 c43 hc43) gwX12_isDigit_50 hdS_X12_isDigit ⟨Nat.le_of_ble_eq_true rfl, Nat.le_of_ble_eq_true rfl⟩ rfl rfl (Nat.le_of_ble_eq_true rfl) ⟨Nat.zero_le _, Nat.zero_le _⟩ dX12_number_43 rfl rfl ?_
    refine V_if_eq (tgt := 86) X dX12_number_46 (by decide) h (fun h => ?_) (fun h => ?_)
    · exact V_sub [1, 2, 3, 4] rfl (he35 _ (Option.some.inj h).symm)
    · refine V_bipush X dX12_number_49 (by decide) ?_
      refine V_iload X dX12_number_51 4 rfl ?_
      refine V_imul X dX12_number_53 ?_
      refine V_aload_n X dX12_number_54 0 rfl ?_
      refine V_aload_n X dX12_number_55 0 rfl ?_
      refine V_get (ci := 11) (N := 4) (C := RX12) (T := TX12) (o := o) (j := 2) X rfl in_X12 (by decide) hK0 (by decide) q798 (fv_0 rfl) dX12_number_56 ?_
      obtain ⟨c59, hc59, h⟩ := bind_some_eq h
      refine V_callV (ci := 11) (N := 4) (T := TX12) (As := [vI (gI g 1102 o)]) (rest := [vI (10 * l4)]) (s1 := [vI c59, vI (10 * l4)]) (o := o) X (con_xReader_byteAt K hW o hK0 g (gI g 1102 o) c59 hc59) gwX12_byteAt_22 hdV_X12_byteAt ⟨Nat.le_of_ble_eq_true rfl, Nat.le_of_ble_eq_true rfl⟩ rfl (by decide) hK0 rfl rfl (Nat.le_of_ble_eq_true rfl) ⟨Nat.zero_le _, Nat.zero_le _⟩ dX12_number_59 rfl rfl ?_
      refine V_iadd X dX12_number_62 ?_
      refine V_bipush X dX12_number_63 (by decide) ?_
      refine V_isub X dX12_number_65 ?_
      refine V_ldc X q968 (n := 1000000) (by decide) dX12_number_66 ?_
      refine V_min X q969 ⟨Nat.le_of_ble_eq_true rfl, Nat.le_of_ble_eq_true rfl⟩ (Nat.le_of_ble_eq_true rfl) ⟨Nat.zero_le _, Nat.zero_le _⟩ dX12_number_68 ?_
      refine V_istore X dX12_number_71 (by decide) (L' := [(4, vI (imin (((10 * l4) + c59) - 48) 1000000)), (0, .ref (xb x + o)), (1, vI l1), (2, vI l2), (3, vI l3)]) rfl ?_
      refine V_aload_n X dX12_number_73 1 rfl ?_
      refine V_dup X dX12_number_74 rfl ?_
      refine V_get (ci := 11) (N := 4) (C := RX12) (T := TX12) (o := o) (j := 2) X rfl in_X12 (by decide) hK0 (by decide) q798 (fv_0 rfl) dX12_number_75 ?_
      refine V_iconst X dX12_number_78 ?_
      refine V_iadd X dX12_number_79 ?_
      refine V_put (ty := .int) (ci := 11) (N := 4) (C := RX12) (T := TX12) (o := o) (j := 2) (a := ((gI g 1102 o) + 1)) X rfl in_X12 tyX12 tyX12_ok nmX12 (by decide) hK0 (by decide) rfl pfd_I rfl rfl q798 (by rw [fv_0 rfl, gI_sI, if_pos ⟨rfl, rfl⟩]) dX12_number_80 ?_
      refine V_goto (tgt := 35) X dX12_number_83 (by decide) ?_
      exact V_sub [1, 2, 3, 4, 0] rfl (hc35 _ (Option.some.inj h).symm)
  unfold xReader_number at h
  show V x 5 K 0 0 sz g 0 [(0, .ref (xb x + o)), (1, vI l1), (2, vI l2)] []
  refine V_aload_n X dX12_number_0 0 rfl ?_
  obtain ⟨c1, hc1, h⟩ := bind_some_eq h
  refine V_callV (ci := 11) (N := 4) (T := TX12) (As := []) (rest := []) (s1 := [vI c1.1]) (o := o) X (con_xReader_place K hW N o hK0 g c1 hc1) gwX12_place_30 hdV_X12_place ⟨Nat.le_of_ble_eq_true rfl, Nat.le_of_ble_eq_true rfl⟩ rfl (by decide) hK0 rfl rfl (Nat.le_of_ble_eq_true rfl) ⟨Nat.zero_le _, Nat.zero_le _⟩ dX12_number_1 rfl rfl ?_
  refine V_istore_n X dX12_number_4 (by decide) (L' := [(3, vI c1.1), (0, .ref (xb x + o)), (1, vI l1), (2, vI l2)]) rfl ?_
  refine V_iconst X dX12_number_5 ?_
  refine V_istore X dX12_number_6 (by decide) (L' := [(4, vI 0), (3, vI c1.1), (0, .ref (xb x + o)), (1, vI l1), (2, vI l2)]) rfl ?_
  refine V_aload_n X dX12_number_8 2 rfl ?_
  refine V_aload_n X dX12_number_9 2 rfl ?_
  refine V_get (ci := 11) (N := 4) (C := RX12) (T := TX12) (o := o) (j := 2) X rfl in_X12 (by decide) hK0 (by decide) q798 (fv_0 rfl) dX12_number_10 ?_
  obtain ⟨c13, hc13, h⟩ := bind_some_eq h
  refine V_callV (ci := 11) (N := 4) (T := TX12) (As := [vI (gI c1.2 1102 o)]) (rest := []) (s1 := [vI c13]) (o := o) X (con_xReader_byteAt K hW o hK0 c1.2 (gI c1.2 1102 o) c13 hc13) gwX12_byteAt_22 hdV_X12_byteAt ⟨Nat.le_of_ble_eq_true rfl, Nat.le_of_ble_eq_true rfl⟩ rfl (by decide) hK0 rfl rfl (Nat.le_of_ble_eq_true rfl) ⟨Nat.zero_le _, Nat.zero_le _⟩ dX12_number_13 rfl rfl ?_
  obtain ⟨c16, hc16, h⟩ := bind_some_eq h
  refine V_callS (As := [vI c13]) (rest := []) (s1 := [vI c16]) X (con_xReader_isDigit K hW c1.2 c13 c16 hc16) gwX12_isDigit_50 hdS_X12_isDigit ⟨Nat.le_of_ble_eq_true rfl, Nat.le_of_ble_eq_true rfl⟩ rfl rfl (Nat.le_of_ble_eq_true rfl) ⟨Nat.zero_le _, Nat.zero_le _⟩ dX12_number_16 rfl rfl ?_
  refine V_if_ne (tgt := 35) X dX12_number_19 (by decide) h (fun h => ?_) (fun h => ?_)
  · obtain ⟨t1, t1q, h⟩ := bind_some_eq h
    refine V_sub [2, 3, 4, 1, 0] rfl (LL35 l1 l2 c1.1 N (c1.2, 0) _ t1q ?_)
    refine V_iload X dX12_number_86 3 rfl ?_
    refine V_iload_n X dX12_number_88 0 rfl ?_
    refine V_icmp_lt (tgt := 98) X dX12_number_89 (by decide) h (fun h => ?_) (fun h => ?_)
    · exact V_sub [2] rfl (J98 _ _ h)
    · refine V_iload X dX12_number_92 3 rfl ?_
      refine V_iload_n X dX12_number_94 1 rfl ?_
      refine V_icmp_le (tgt := 108) X dX12_number_95 (by decide) h (fun h => ?_) (fun h => ?_)
      · refine V_iload X dX12_number_108 3 rfl ?_
        have hr := Option.some.inj h
        subst hr
        exact V_end_i hX rfl dX12_number_110
      · exact V_sub [2] rfl (J98 _ _ h)
  · have hr := Option.some.inj h
    subst hr
    refine V_new (ci := 12) (N := 8) (C := RX13) (T := TX13) X rfl in_X13 tyX13 tyX13_ok (by decide) (by decide) q966 q924 q116 dfX13 (by rw [hX.2.2.1]; exact Or.inr (Nat.le_refl _)) ⟨Nat.le_of_ble_eq_true rfl, Nat.le_of_ble_eq_true rfl⟩ dX12_number_22 ?_
    have hW := hWS.wk (kd := 13) rfl
    have hK0 := hWS.keep (kd := 13) hK0
    refine V_dup X dX12_number_25 rfl ?_
    refine V_iconst X dX12_number_26 ?_
    refine V_aload_n X dX12_number_27 2 rfl ?_
    refine V_get (ci := 11) (N := 4) (C := RX12) (T := TX12) (o := o) (j := 2) X rfl in_X12 (by decide) hK0 (by decide) q798 (fv_0 rfl) dX12_number_28 ?_
    refine V_callI (As := [vI 1, vI (gI (newI 12 sz c1.2) 1102 o)]) (rest := [.ref (xb x + sz)]) (s1 := [.ref (xb x + sz)]) (o := sz) X ((con_Wrong (ku K sz 13) sz ku_self (newI 12 sz c1.2) 1 (gI (newI 12 sz c1.2) 1102 o)).at1 (sz + 1)) q967 q933 q116 q934 hdI_Wrong ⟨Nat.le_of_ble_eq_true rfl, Nat.le_of_ble_eq_true rfl⟩ rfl rfl (Nat.le_of_ble_eq_true rfl) ⟨Nat.le_of_ble_eq_true rfl, Nat.le_of_ble_eq_true rfl⟩ dX12_number_31 rfl rfl ?_
    exact V_throwO hX ⟨Nat.le_of_ble_eq_true rfl, Nat.le_of_ble_eq_true rfl⟩ dX12_number_34
set_option maxHeartbeats 4000000 in
theorem con_xRoadReader_deed (K : Nat → Nat) (hW : WFK K) (N : Nat) (o : Nat) (hK0 : K o = 11) (sz : Nat) (hWS : WFS K sz) (g : GS) (l1 : Int) (r : ((Nat × GS) ⊕ GS)) (h : xRoadReader_deed N o sz g l1 = some r) : ConX sz yX11_deed cX11_deed 2 none 8 184 K (fun b => [.ref (b + o), vI l1]) g (fun r => ((fun _ => none), r)) r := by
  refine ConX.of RX11 (by decide) rfl (fun b => Nat.le_of_ble_eq_true rfl) (fun x hX => ?_)
  have X := hX.ok
  unfold xRoadReader_deed at h
  show V x 2 K 0 0 sz g 0 [(0, .ref (xb x + o)), (1, vI l1)] []
  refine V_aload_n X dX11_deed_0 0 rfl ?_
  refine V_get (ci := 10) (N := 4) (C := RX11) (T := TX11) (o := o) (j := 2) X rfl in_X11 (by decide) hK0 (by decide) q831 (fv_1 (i := (o + 3)) rfl rfl) dX11_deed_1 ?_
  refine V_getN (ci := 8) (N := 24) (C := RX9) (T := TX9) (o := (o + 3)) (j := 1) X rfl in_X9 (by decide) (hW.blk (by decide) hK0 3 (by decide) rfl) (by decide) q359 (fv_1 (i := ((o + 3) + 2)) rfl rfl) dX11_deed_4 ?_
  refine V_iload_n X dX11_deed_7 1 rfl ?_
  refine V_aload_n X dX11_deed_8 0 rfl ?_
  refine V_get (ci := 10) (N := 4) (C := RX11) (T := TX11) (o := o) (j := 1) X rfl in_X11 (by decide) hK0 (by decide) q830 (fv_1 (i := (o + 1)) rfl rfl) dX11_deed_9 ?_
  refine V_iconst X dX11_deed_12 ?_
  refine V_bipush X dX11_deed_13 (by decide) ?_
  obtain ⟨c15, hc15, h⟩ := bind_some_eq h
  rcases c15 with x15 | y15
  · replace h := thT_l h
    have hr := Option.some.inj h
    subst hr
    exact V_callVT (ci := 11) (N := 4) (T := TX12) (As := [vI 1, vI 30]) (rest := [vI l1, .ref (xb x + ((o + 3) + 2))]) (o := (o + 1)) hX (con_xReader_number K hW N (o + 1) (hW.blk (by decide) hK0 1 (by decide) rfl) sz hWS g 1 30 (.inl x15) hc15) gwX11_number_106 hdV_X12_number ⟨Nat.le_of_ble_eq_true rfl, Nat.le_of_ble_eq_true rfl⟩ rfl (by decide) (hW.blk (by decide) hK0 1 (by decide) rfl) rfl rfl (Nat.le_of_ble_eq_true rfl) dX11_deed_15 rfl
  replace h := thT_r h
  refine V_callV1 (ci := 11) (N := 4) (T := TX12) (As := [vI 1, vI 30]) (rest := [vI l1, .ref (xb x + ((o + 3) + 2))]) (s1 := [vI y15.1, vI l1, .ref (xb x + ((o + 3) + 2))]) (o := (o + 1)) X (con_xReader_number K hW N (o + 1) (hW.blk (by decide) hK0 1 (by decide) rfl) sz hWS g 1 30 (.inr y15) hc15) gwX11_number_106 hdV_X12_number ⟨Nat.le_of_ble_eq_true rfl, Nat.le_of_ble_eq_true rfl⟩ rfl (by decide) (hW.blk (by decide) hK0 1 (by decide) rfl) rfl rfl (Nat.le_of_ble_eq_true rfl) ⟨Nat.zero_le _, Nat.zero_le _⟩ dX11_deed_15 rfl rfl ?_
  refine V_iast X (o := ((o + 3) + 2)) (n := 12) (hW.blk (by decide) (hW.blk (by decide) hK0 3 (by decide) rfl) 2 (by decide) rfl) (by decide) dX11_deed_18 h (fun g18 h => ?_)
  refine V_aload_n X dX11_deed_19 0 rfl ?_
  refine V_get (ci := 10) (N := 4) (C := RX11) (T := TX11) (o := o) (j := 2) X rfl in_X11 (by decide) hK0 (by decide) q831 (fv_1 (i := (o + 3)) rfl rfl) dX11_deed_20 ?_
  refine V_getN (ci := 8) (N := 24) (C := RX9) (T := TX9) (o := (o + 3)) (j := 2) X rfl in_X9 (by decide) (hW.blk (by decide) hK0 3 (by decide) rfl) (by decide) q363 (fv_1 (i := ((o + 3) + 3)) rfl rfl) dX11_deed_23 ?_
  refine V_iload_n X dX11_deed_26 1 rfl ?_
  refine V_aload_n X dX11_deed_27 0 rfl ?_
  refine V_get (ci := 10) (N := 4) (C := RX11) (T := TX11) (o := o) (j := 1) X rfl in_X11 (by decide) hK0 (by decide) q830 (fv_1 (i := (o + 1)) rfl rfl) dX11_deed_28 ?_
  refine V_iconst X dX11_deed_31 ?_
  refine V_iconst X dX11_deed_32 ?_
  obtain ⟨c33, hc33, h⟩ := bind_some_eq h
  rcases c33 with x33 | y33
  · replace h := thT_l h
    have hr := Option.some.inj h
    subst hr
    exact V_callVT (ci := 11) (N := 4) (T := TX12) (As := [vI 0, vI 1]) (rest := [vI l1, .ref (xb x + ((o + 3) + 3))]) (o := (o + 1)) hX (con_xReader_number K hW N (o + 1) (hW.blk (by decide) hK0 1 (by decide) rfl) sz hWS g18 0 1 (.inl x33) hc33) gwX11_number_106 hdV_X12_number ⟨Nat.le_of_ble_eq_true rfl, Nat.le_of_ble_eq_true rfl⟩ rfl (by decide) (hW.blk (by decide) hK0 1 (by decide) rfl) rfl rfl (Nat.le_of_ble_eq_true rfl) dX11_deed_33 rfl
  replace h := thT_r h
  refine V_callV1 (ci := 11) (N := 4) (T := TX12) (As := [vI 0, vI 1]) (rest := [vI l1, .ref (xb x + ((o + 3) + 3))]) (s1 := [vI y33.1, vI l1, .ref (xb x + ((o + 3) + 3))]) (o := (o + 1)) X (con_xReader_number K hW N (o + 1) (hW.blk (by decide) hK0 1 (by decide) rfl) sz hWS g18 0 1 (.inr y33) hc33) gwX11_number_106 hdV_X12_number ⟨Nat.le_of_ble_eq_true rfl, Nat.le_of_ble_eq_true rfl⟩ rfl (by decide) (hW.blk (by decide) hK0 1 (by decide) rfl) rfl rfl (Nat.le_of_ble_eq_true rfl) ⟨Nat.zero_le _, Nat.zero_le _⟩ dX11_deed_33 rfl rfl ?_
  refine V_iast X (o := ((o + 3) + 3)) (n := 12) (hW.blk (by decide) (hW.blk (by decide) hK0 3 (by decide) rfl) 3 (by decide) rfl) (by decide) dX11_deed_36 h (fun g36 h => ?_)
  refine V_aload_n X dX11_deed_37 0 rfl ?_
  refine V_get (ci := 10) (N := 4) (C := RX11) (T := TX11) (o := o) (j := 2) X rfl in_X11 (by decide) hK0 (by decide) q831 (fv_1 (i := (o + 3)) rfl rfl) dX11_deed_38 ?_
  refine V_getN (ci := 8) (N := 24) (C := RX9) (T := TX9) (o := (o + 3)) (j := 3) X rfl in_X9 (by decide) (hW.blk (by decide) hK0 3 (by decide) rfl) (by decide) q367 (fv_1 (i := ((o + 3) + 4)) rfl rfl) dX11_deed_41 ?_
  refine V_iload_n X dX11_deed_44 1 rfl ?_
  refine V_aload_n X dX11_deed_45 0 rfl ?_
  refine V_get (ci := 10) (N := 4) (C := RX11) (T := TX11) (o := o) (j := 1) X rfl in_X11 (by decide) hK0 (by decide) q830 (fv_1 (i := (o + 1)) rfl rfl) dX11_deed_46 ?_
  refine V_iconst X dX11_deed_49 ?_
  refine V_iconst X dX11_deed_50 ?_
  obtain ⟨c51, hc51, h⟩ := bind_some_eq h
  rcases c51 with x51 | y51
  · replace h := thT_l h
    have hr := Option.some.inj h
    subst hr
    exact V_callVT (ci := 11) (N := 4) (T := TX12) (As := [vI 1, vI 2]) (rest := [vI l1, .ref (xb x + ((o + 3) + 4))]) (o := (o + 1)) hX (con_xReader_number K hW N (o + 1) (hW.blk (by decide) hK0 1 (by decide) rfl) sz hWS g36 1 2 (.inl x51) hc51) gwX11_number_106 hdV_X12_number ⟨Nat.le_of_ble_eq_true rfl, Nat.le_of_ble_eq_true rfl⟩ rfl (by decide) (hW.blk (by decide) hK0 1 (by decide) rfl) rfl rfl (Nat.le_of_ble_eq_true rfl) dX11_deed_51 rfl
  replace h := thT_r h
  refine V_callV1 (ci := 11) (N := 4) (T := TX12) (As := [vI 1, vI 2]) (rest := [vI l1, .ref (xb x + ((o + 3) + 4))]) (s1 := [vI y51.1, vI l1, .ref (xb x + ((o + 3) + 4))]) (o := (o + 1)) X (con_xReader_number K hW N (o + 1) (hW.blk (by decide) hK0 1 (by decide) rfl) sz hWS g36 1 2 (.inr y51) hc51) gwX11_number_106 hdV_X12_number ⟨Nat.le_of_ble_eq_true rfl, Nat.le_of_ble_eq_true rfl⟩ rfl (by decide) (hW.blk (by decide) hK0 1 (by decide) rfl) rfl rfl (Nat.le_of_ble_eq_true rfl) ⟨Nat.zero_le _, Nat.zero_le _⟩ dX11_deed_51 rfl rfl ?_
  refine V_iast X (o := ((o + 3) + 4)) (n := 12) (hW.blk (by decide) (hW.blk (by decide) hK0 3 (by decide) rfl) 4 (by decide) rfl) (by decide) dX11_deed_54 h (fun g54 h => ?_)
  refine V_aload_n X dX11_deed_55 0 rfl ?_
  refine V_get (ci := 10) (N := 4) (C := RX11) (T := TX11) (o := o) (j := 2) X rfl in_X11 (by decide) hK0 (by decide) q831 (fv_1 (i := (o + 3)) rfl rfl) dX11_deed_56 ?_
  refine V_getN (ci := 8) (N := 24) (C := RX9) (T := TX9) (o := (o + 3)) (j := 4) X rfl in_X9 (by decide) (hW.blk (by decide) hK0 3 (by decide) rfl) (by decide) q371 (fv_1 (i := ((o + 3) + 5)) rfl rfl) dX11_deed_59 ?_
  refine V_iload_n X dX11_deed_62 1 rfl ?_
  refine V_aload_n X dX11_deed_63 0 rfl ?_
  refine V_get (ci := 10) (N := 4) (C := RX11) (T := TX11) (o := o) (j := 1) X rfl in_X11 (by decide) hK0 (by decide) q830 (fv_1 (i := (o + 1)) rfl rfl) dX11_deed_64 ?_
  refine V_iconst X dX11_deed_67 ?_
  refine V_bipush X dX11_deed_68 (by decide) ?_
  obtain ⟨c70, hc70, h⟩ := bind_some_eq h
  rcases c70 with x70 | y70
  · replace h := thT_l h
    have hr := Option.some.inj h
    subst hr
    exact V_callVT (ci := 11) (N := 4) (T := TX12) (As := [vI 0, vI 18]) (rest := [vI l1, .ref (xb x + ((o + 3) + 5))]) (o := (o + 1)) hX (con_xReader_number K hW N (o + 1) (hW.blk (by decide) hK0 1 (by decide) rfl) sz hWS g54 0 18 (.inl x70) hc70) gwX11_number_106 hdV_X12_number ⟨Nat.le_of_ble_eq_true rfl, Nat.le_of_ble_eq_true rfl⟩ rfl (by decide) (hW.blk (by decide) hK0 1 (by decide) rfl) rfl rfl (Nat.le_of_ble_eq_true rfl) dX11_deed_70 rfl
  replace h := thT_r h
  refine V_callV1 (ci := 11) (N := 4) (T := TX12) (As := [vI 0, vI 18]) (rest := [vI l1, .ref (xb x + ((o + 3) + 5))]) (s1 := [vI y70.1, vI l1, .ref (xb x + ((o + 3) + 5))]) (o := (o + 1)) X (con_xReader_number K hW N (o + 1) (hW.blk (by decide) hK0 1 (by decide) rfl) sz hWS g54 0 18 (.inr y70) hc70) gwX11_number_106 hdV_X12_number ⟨Nat.le_of_ble_eq_true rfl, Nat.le_of_ble_eq_true rfl⟩ rfl (by decide) (hW.blk (by decide) hK0 1 (by decide) rfl) rfl rfl (Nat.le_of_ble_eq_true rfl) ⟨Nat.zero_le _, Nat.zero_le _⟩ dX11_deed_70 rfl rfl ?_
  refine V_iast X (o := ((o + 3) + 5)) (n := 12) (hW.blk (by decide) (hW.blk (by decide) hK0 3 (by decide) rfl) 5 (by decide) rfl) (by decide) dX11_deed_73 h (fun g73 h => ?_)
  refine V_aload_n X dX11_deed_74 0 rfl ?_
  refine V_get (ci := 10) (N := 4) (C := RX11) (T := TX11) (o := o) (j := 2) X rfl in_X11 (by decide) hK0 (by decide) q831 (fv_1 (i := (o + 3)) rfl rfl) dX11_deed_75 ?_
  refine V_dup X dX11_deed_78 rfl ?_
  refine V_getN (ci := 8) (N := 24) (C := RX9) (T := TX9) (o := (o + 3)) (j := 14) X rfl in_X9 (by decide) (hW.blk (by decide) hK0 3 (by decide) rfl) (by decide) q401 (fv_0 rfl) dX11_deed_79 ?_
  refine V_iconst X dX11_deed_82 ?_
  refine V_iadd X dX11_deed_83 ?_
  refine V_putN (ty := .int) (ci := 8) (N := 24) (C := RX9) (T := TX9) (o := (o + 3)) (j := 14) (a := ((gI g73 814 (o + 3)) + 1)) X rfl in_X9 tyX9 tyX9_ok nmX9 (by decide) (hW.blk (by decide) hK0 3 (by decide) rfl) (by decide) rfl pfd_I rfl rfl q401 (by rw [fv_0 rfl, gI_sI, if_pos ⟨rfl, rfl⟩]) dX11_deed_84 ?_
  have hr := Option.some.inj h
  subst hr
  exact V_end_v hX rfl dX11_deed_87
set_option maxHeartbeats 4000000 in
theorem con_xRoadReader_rain (K : Nat → Nat) (hW : WFK K) (N : Nat) (o : Nat) (hK0 : K o = 11) (sz : Nat) (hWS : WFS K sz) (g : GS) (l1 : Int) (r : ((Nat × GS) ⊕ GS)) (h : xRoadReader_rain N o sz g l1 = some r) : ConX sz yX11_rain cX11_rain 2 none 8 184 K (fun b => [.ref (b + o), vI l1]) g (fun r => ((fun _ => none), r)) r := by
  refine ConX.of RX11 (by decide) rfl (fun b => Nat.le_of_ble_eq_true rfl) (fun x hX => ?_)
  have X := hX.ok
  unfold xRoadReader_rain at h
  show V x 2 K 0 0 sz g 0 [(0, .ref (xb x + o)), (1, vI l1)] []
  refine V_aload_n X dX11_rain_0 0 rfl ?_
  refine V_get (ci := 10) (N := 4) (C := RX11) (T := TX11) (o := o) (j := 2) X rfl in_X11 (by decide) hK0 (by decide) q831 (fv_1 (i := (o + 3)) rfl rfl) dX11_rain_1 ?_
  refine V_getN (ci := 8) (N := 24) (C := RX9) (T := TX9) (o := (o + 3)) (j := 6) X rfl in_X9 (by decide) (hW.blk (by decide) hK0 3 (by decide) rfl) (by decide) q378 (fv_1 (i := ((o + 3) + 7)) rfl rfl) dX11_rain_4 ?_
  refine V_iload_n X dX11_rain_7 1 rfl ?_
  refine V_aload_n X dX11_rain_8 0 rfl ?_
  refine V_get (ci := 10) (N := 4) (C := RX11) (T := TX11) (o := o) (j := 1) X rfl in_X11 (by decide) hK0 (by decide) q830 (fv_1 (i := (o + 1)) rfl rfl) dX11_rain_9 ?_
  refine V_iconst X dX11_rain_12 ?_
  refine V_sipush X dX11_rain_13 (by decide) ?_
  obtain ⟨c16, hc16, h⟩ := bind_some_eq h
  rcases c16 with x16 | y16
  · replace h := thT_l h
    have hr := Option.some.inj h
    subst hr
    exact V_callVT (ci := 11) (N := 4) (T := TX12) (As := [vI 0, vI 240]) (rest := [vI l1, .ref (xb x + ((o + 3) + 7))]) (o := (o + 1)) hX (con_xReader_number K hW N (o + 1) (hW.blk (by decide) hK0 1 (by decide) rfl) sz hWS g 0 240 (.inl x16) hc16) gwX11_number_106 hdV_X12_number ⟨Nat.le_of_ble_eq_true rfl, Nat.le_of_ble_eq_true rfl⟩ rfl (by decide) (hW.blk (by decide) hK0 1 (by decide) rfl) rfl rfl (Nat.le_of_ble_eq_true rfl) dX11_rain_16 rfl
  replace h := thT_r h
  refine V_callV1 (ci := 11) (N := 4) (T := TX12) (As := [vI 0, vI 240]) (rest := [vI l1, .ref (xb x + ((o + 3) + 7))]) (s1 := [vI y16.1, vI l1, .ref (xb x + ((o + 3) + 7))]) (o := (o + 1)) X (con_xReader_number K hW N (o + 1) (hW.blk (by decide) hK0 1 (by decide) rfl) sz hWS g 0 240 (.inr y16) hc16) gwX11_number_106 hdV_X12_number ⟨Nat.le_of_ble_eq_true rfl, Nat.le_of_ble_eq_true rfl⟩ rfl (by decide) (hW.blk (by decide) hK0 1 (by decide) rfl) rfl rfl (Nat.le_of_ble_eq_true rfl) ⟨Nat.zero_le _, Nat.zero_le _⟩ dX11_rain_16 rfl rfl ?_
  refine V_iast X (o := ((o + 3) + 7)) (n := 6) (hW.blk (by decide) (hW.blk (by decide) hK0 3 (by decide) rfl) 7 (by decide) rfl) (by decide) dX11_rain_19 h (fun g19 h => ?_)
  refine V_aload_n X dX11_rain_20 0 rfl ?_
  refine V_get (ci := 10) (N := 4) (C := RX11) (T := TX11) (o := o) (j := 2) X rfl in_X11 (by decide) hK0 (by decide) q831 (fv_1 (i := (o + 3)) rfl rfl) dX11_rain_21 ?_
  refine V_getN (ci := 8) (N := 24) (C := RX9) (T := TX9) (o := (o + 3)) (j := 7) X rfl in_X9 (by decide) (hW.blk (by decide) hK0 3 (by decide) rfl) (by decide) q380 (fv_1 (i := ((o + 3) + 8)) rfl rfl) dX11_rain_24 ?_
  refine V_iload_n X dX11_rain_27 1 rfl ?_
  refine V_aload_n X dX11_rain_28 0 rfl ?_
  refine V_get (ci := 10) (N := 4) (C := RX11) (T := TX11) (o := o) (j := 1) X rfl in_X11 (by decide) hK0 (by decide) q830 (fv_1 (i := (o + 1)) rfl rfl) dX11_rain_29 ?_
  refine V_aload_n X dX11_rain_32 0 rfl ?_
  refine V_get (ci := 10) (N := 4) (C := RX11) (T := TX11) (o := o) (j := 2) X rfl in_X11 (by decide) hK0 (by decide) q831 (fv_1 (i := (o + 3)) rfl rfl) dX11_rain_33 ?_
  refine V_getN (ci := 8) (N := 24) (C := RX9) (T := TX9) (o := (o + 3)) (j := 6) X rfl in_X9 (by decide) (hW.blk (by decide) hK0 3 (by decide) rfl) (by decide) q378 (fv_1 (i := ((o + 3) + 7)) rfl rfl) dX11_rain_36 ?_
  refine V_iload_n X dX11_rain_39 1 rfl ?_
  refine V_iald X (o := ((o + 3) + 7)) (n := 6) (hW.blk (by decide) (hW.blk (by decide) hK0 3 (by decide) rfl) 7 (by decide) rfl) (by decide) dX11_rain_40 h (fun v40 h => ?_)
  refine V_sipush X dX11_rain_41 (by decide) ?_
  obtain ⟨c44, hc44, h⟩ := bind_some_eq h
  rcases c44 with x44 | y44
  · replace h := thT_l h
    have hr := Option.some.inj h
    subst hr
    exact V_callVT (ci := 11) (N := 4) (T := TX12) (As := [vI v40, vI 240]) (rest := [vI l1, .ref (xb x + ((o + 3) + 8))]) (o := (o + 1)) hX (con_xReader_number K hW N (o + 1) (hW.blk (by decide) hK0 1 (by decide) rfl) sz hWS g19 v40 240 (.inl x44) hc44) gwX11_number_106 hdV_X12_number ⟨Nat.le_of_ble_eq_true rfl, Nat.le_of_ble_eq_true rfl⟩ rfl (by decide) (hW.blk (by decide) hK0 1 (by decide) rfl) rfl rfl (Nat.le_of_ble_eq_true rfl) dX11_rain_44 rfl
  replace h := thT_r h
  refine V_callV1 (ci := 11) (N := 4) (T := TX12) (As := [vI v40, vI 240]) (rest := [vI l1, .ref (xb x + ((o + 3) + 8))]) (s1 := [vI y44.1, vI l1, .ref (xb x + ((o + 3) + 8))]) (o := (o + 1)) X (con_xReader_number K hW N (o + 1) (hW.blk (by decide) hK0 1 (by decide) rfl) sz hWS g19 v40 240 (.inr y44) hc44) gwX11_number_106 hdV_X12_number ⟨Nat.le_of_ble_eq_true rfl, Nat.le_of_ble_eq_true rfl⟩ rfl (by decide) (hW.blk (by decide) hK0 1 (by decide) rfl) rfl rfl (Nat.le_of_ble_eq_true rfl) ⟨Nat.zero_le _, Nat.zero_le _⟩ dX11_rain_44 rfl rfl ?_
  refine V_iast X (o := ((o + 3) + 8)) (n := 6) (hW.blk (by decide) (hW.blk (by decide) hK0 3 (by decide) rfl) 8 (by decide) rfl) (by decide) dX11_rain_47 h (fun g47 h => ?_)
  refine V_aload_n X dX11_rain_48 0 rfl ?_
  refine V_get (ci := 10) (N := 4) (C := RX11) (T := TX11) (o := o) (j := 2) X rfl in_X11 (by decide) hK0 (by decide) q831 (fv_1 (i := (o + 3)) rfl rfl) dX11_rain_49 ?_
  refine V_dup X dX11_rain_52 rfl ?_
  refine V_getN (ci := 8) (N := 24) (C := RX9) (T := TX9) (o := (o + 3)) (j := 15) X rfl in_X9 (by decide) (hW.blk (by decide) hK0 3 (by decide) rfl) (by decide) q406 (fv_0 rfl) dX11_rain_53 ?_
  refine V_iconst X dX11_rain_56 ?_
  refine V_iadd X dX11_rain_57 ?_
  refine V_putN (ty := .int) (ci := 8) (N := 24) (C := RX9) (T := TX9) (o := (o + 3)) (j := 15) (a := ((gI g47 815 (o + 3)) + 1)) X rfl in_X9 tyX9 tyX9_ok nmX9 (by decide) (hW.blk (by decide) hK0 3 (by decide) rfl) (by decide) rfl pfd_I rfl rfl q406 (by rw [fv_0 rfl, gI_sI, if_pos ⟨rfl, rfl⟩]) dX11_rain_58 ?_
  have hr := Option.some.inj h
  subst hr
  exact V_end_v hX rfl dX11_rain_61
set_option maxHeartbeats 4000000 in
theorem con_xRoadReader_cause (K : Nat → Nat) (hW : WFK K) (N : Nat) (o : Nat) (hK0 : K o = 11) (sz : Nat) (hWS : WFS K sz) (g : GS) (l1 : Int) (r : ((Nat × GS) ⊕ GS)) (h : xRoadReader_cause N K o sz g l1 = some r) : ConX sz yX11_cause cX11_cause 3 none 8 184 K (fun b => [.ref (b + o), vI l1]) g (fun r => ((fun _ => none), r)) r := by
  refine ConX.of RX11 (by decide) rfl (fun b => Nat.le_of_ble_eq_true rfl) (fun x hX => ?_)
  have X := hX.ok
  have LL21 : ∀ (l1 : Int) (n : Nat) (s : (GS × Int)) (e : ((Nat × GS) ⊕ GS)), loopN (fun s => xRoadReader_cause_b21 N K o sz l1 s.1 s.2) n s = some e → (e = r) → V x 3 K 0 0 sz s.1 21 [(0, .ref (xb x + o)), (1, vI l1), (2, vI s.2)] [] := by
    intro l1 n s e
    refine loop_walk (P := fun s => V x 3 K 0 0 sz s.1 21 [(0, .ref (xb x + o)), (1, vI l1), (2, vI s.2)] []) (E := fun e => e = r) ?_ n s e
    clear e s n
    rintro ⟨g, l2⟩ q21 h hc21 he21
    replace h : xRoadReader_cause_b21 N K o sz l1 g l2 = some q21 := h
    unfold xRoadReader_cause_b21 at h
    show V x 3 K 0 0 sz g 21 [(0, .ref (xb x + o)), (1, vI l1), (2, vI l2)] []
    refine V_iload_n X dX11_cause_21 2 rfl ?_
    refine V_iconst X dX11_cause_22 ?_
    refine V_icmp_ge (tgt := 53) X dX11_cause_23 (by decide) h (fun h => ?_) (fun h => ?_)
    · obtain ⟨e1, h, e1q⟩ := outR_some h
      replace h := h.trans (congrArg some (he21 _ e1q))
      refine V_aload_n X dX11_cause_53 0 rfl ?_
      refine V_get (ci := 10) (N := 4) (C := RX11) (T := TX11) (o := o) (j := 2) X rfl in_X11 (by decide) hK0 (by decide) q831 (fv_1 (i := (o + 3)) rfl rfl) dX11_cause_54 ?_
      refine V_dup X dX11_cause_57 rfl ?_
      refine V_getN (ci := 8) (N := 24) (C := RX9) (T := TX9) (o := (o + 3)) (j := 18) X rfl in_X9 (by decide) (hW.blk (by decide) hK0 3 (by decide) rfl) (by decide) q412 (fv_0 rfl) dX11_cause_58 ?_
      refine V_iconst X dX11_cause_61 ?_
      refine V_iadd X dX11_cause_62 ?_
      refine V_putN (ty := .int) (ci := 8) (N := 24) (C := RX9) (T := TX9) (o := (o + 3)) (j := 18) (a := ((gI g 818 (o + 3)) + 1)) X rfl in_X9 tyX9 tyX9_ok nmX9 (by decide) (hW.blk (by decide) hK0 3 (by decide) rfl) (by decide) rfl pfd_I rfl rfl q412 (by rw [fv_0 rfl, gI_sI, if_pos ⟨rfl, rfl⟩]) dX11_cause_63 ?_
      have hr := Option.some.inj h
      subst hr
      exact V_end_v hX rfl dX11_cause_66
    · refine V_aload_n X dX11_cause_26 0 rfl ?_
      refine V_get (ci := 10) (N := 4) (C := RX11) (T := TX11) (o := o) (j := 2) X rfl in_X11 (by decide) hK0 (by decide) q831 (fv_1 (i := (o + 3)) rfl rfl) dX11_cause_27 ?_
      refine V_getN (ci := 8) (N := 24) (C := RX9) (T := TX9) (o := (o + 3)) (j := 12) X rfl in_X9 (by decide) (hW.blk (by decide) hK0 3 (by decide) rfl) (by decide) q393 (fv_1 (i := ((o + 3) + 13)) rfl rfl) dX11_cause_30 ?_
      refine V_iload_n X dX11_cause_33 1 rfl ?_
      obtain ⟨i34, hni34, hvi34, hki34, h⟩ := rdQ_some h
      refine V_aald (o := ((o + 3) + 13)) (t := 7) (n := 4) X (by decide) (by decide) (hW.blk (by decide) (hW.blk (by decide) hK0 3 (by decide) rfl) 13 (by decide) rfl) (by decide) hni34 hvi34 dX11_cause_34 ?_
      refine V_iload_n X dX11_cause_35 2 rfl ?_
      refine V_aload_n X dX11_cause_36 0 rfl ?_
      refine V_get (ci := 10) (N := 4) (C := RX11) (T := TX11) (o := o) (j := 1) X rfl in_X11 (by decide) hK0 (by decide) q830 (fv_1 (i := (o + 1)) rfl rfl) dX11_cause_37 ?_
      refine V_iconst X dX11_cause_40 ?_
      refine V_bipush X dX11_cause_41 (by decide) ?_
      obtain ⟨c43, hc43, h⟩ := bind_some_eq h
      rcases c43 with x43 | y43
      · replace h := thT_l h
        obtain ⟨e2, h, e2q⟩ := outR_some h
        replace h := h.trans (congrArg some (he21 _ e2q))
        have hr := Option.some.inj h
        subst hr
        exact V_callVT (ci := 11) (N := 4) (T := TX12) (As := [vI 0, vI 16]) (rest := [vI l2, .ref (xb x + i34)]) (o := (o + 1)) hX (con_xReader_number K hW N (o + 1) (hW.blk (by decide) hK0 1 (by decide) rfl) sz hWS g 0 16 (.inl x43) hc43) gwX11_number_106 hdV_X12_number ⟨Nat.le_of_ble_eq_true rfl, Nat.le_of_ble_eq_true rfl⟩ rfl (by decide) (hW.blk (by decide) hK0 1 (by decide) rfl) rfl rfl (Nat.le_of_ble_eq_true rfl) dX11_cause_43 rfl
      replace h := thT_r h
      refine V_callV1 (ci := 11) (N := 4) (T := TX12) (As := [vI 0, vI 16]) (rest := [vI l2, .ref (xb x + i34)]) (s1 := [vI y43.1, vI l2, .ref (xb x + i34)]) (o := (o + 1)) X (con_xReader_number K hW N (o + 1) (hW.blk (by decide) hK0 1 (by decide) rfl) sz hWS g 0 16 (.inr y43) hc43) gwX11_number_106 hdV_X12_number ⟨Nat.le_of_ble_eq_true rfl, Nat.le_of_ble_eq_true rfl⟩ rfl (by decide) (hW.blk (by decide) hK0 1 (by decide) rfl) rfl rfl (Nat.le_of_ble_eq_true rfl) ⟨Nat.zero_le _, Nat.zero_le _⟩ dX11_cause_43 rfl rfl ?_
      refine V_iast X (o := i34) (n := 3) hki34 (by decide) dX11_cause_46 h (fun g46 h => ?_)
      refine V_iinc X dX11_cause_47 2 rfl (by decide) (L' := [(2, vI (l2 + 1)), (0, .ref (xb x + o)), (1, vI l1)]) rfl ?_
      refine V_goto (tgt := 21) X dX11_cause_50 (by decide) ?_
      exact V_sub [1, 2, 0] rfl (hc21 _ (Option.some.inj h).symm)
  unfold xRoadReader_cause at h
  show V x 3 K 0 0 sz g 0 [(0, .ref (xb x + o)), (1, vI l1)] []
  refine V_aload_n X dX11_cause_0 0 rfl ?_
  refine V_get (ci := 10) (N := 4) (C := RX11) (T := TX11) (o := o) (j := 2) X rfl in_X11 (by decide) hK0 (by decide) q831 (fv_1 (i := (o + 3)) rfl rfl) dX11_cause_1 ?_
  refine V_getN (ci := 8) (N := 24) (C := RX9) (T := TX9) (o := (o + 3)) (j := 11) X rfl in_X9 (by decide) (hW.blk (by decide) hK0 3 (by decide) rfl) (by decide) q390 (fv_1 (i := ((o + 3) + 12)) rfl rfl) dX11_cause_4 ?_
  refine V_iload_n X dX11_cause_7 1 rfl ?_
  refine V_aload_n X dX11_cause_8 0 rfl ?_
  refine V_get (ci := 10) (N := 4) (C := RX11) (T := TX11) (o := o) (j := 1) X rfl in_X11 (by decide) hK0 (by decide) q830 (fv_1 (i := (o + 1)) rfl rfl) dX11_cause_9 ?_
  refine V_iconst X dX11_cause_12 ?_
  refine V_bipush X dX11_cause_13 (by decide) ?_
  obtain ⟨c15, hc15, h⟩ := bind_some_eq h
  rcases c15 with x15 | y15
  · replace h := thT_l h
    have hr := Option.some.inj h
    subst hr
    exact V_callVT (ci := 11) (N := 4) (T := TX12) (As := [vI 1, vI 16]) (rest := [vI l1, .ref (xb x + ((o + 3) + 12))]) (o := (o + 1)) hX (con_xReader_number K hW N (o + 1) (hW.blk (by decide) hK0 1 (by decide) rfl) sz hWS g 1 16 (.inl x15) hc15) gwX11_number_106 hdV_X12_number ⟨Nat.le_of_ble_eq_true rfl, Nat.le_of_ble_eq_true rfl⟩ rfl (by decide) (hW.blk (by decide) hK0 1 (by decide) rfl) rfl rfl (Nat.le_of_ble_eq_true rfl) dX11_cause_15 rfl
  replace h := thT_r h
  refine V_callV1 (ci := 11) (N := 4) (T := TX12) (As := [vI 1, vI 16]) (rest := [vI l1, .ref (xb x + ((o + 3) + 12))]) (s1 := [vI y15.1, vI l1, .ref (xb x + ((o + 3) + 12))]) (o := (o + 1)) X (con_xReader_number K hW N (o + 1) (hW.blk (by decide) hK0 1 (by decide) rfl) sz hWS g 1 16 (.inr y15) hc15) gwX11_number_106 hdV_X12_number ⟨Nat.le_of_ble_eq_true rfl, Nat.le_of_ble_eq_true rfl⟩ rfl (by decide) (hW.blk (by decide) hK0 1 (by decide) rfl) rfl rfl (Nat.le_of_ble_eq_true rfl) ⟨Nat.zero_le _, Nat.zero_le _⟩ dX11_cause_15 rfl rfl ?_
  refine V_iast X (o := ((o + 3) + 12)) (n := 4) (hW.blk (by decide) (hW.blk (by decide) hK0 3 (by decide) rfl) 12 (by decide) rfl) (by decide) dX11_cause_18 h (fun g18 h => ?_)
  refine V_iconst X dX11_cause_19 ?_
  refine V_istore_n X dX11_cause_20 (by decide) (L' := [(2, vI 0), (0, .ref (xb x + o)), (1, vI l1)]) rfl ?_
  exact V_sub [1, 2, 0] rfl (LL21 l1 N (g18, 0) _ h rfl)
set_option maxHeartbeats 4000000 in
theorem con_xReader_sign (K : Nat → Nat) (hW : WFK K) (N : Nat) (o : Nat) (hK0 : K o = 12) (sz : Nat) (hWS : WFS K sz) (g : GS) (l1 : Int) (r : ((Nat × GS) ⊕ GS)) (h : xReader_sign N o sz g l1 = some r) : ConX sz yX12_sign cX12_sign 2 none 7 160 K (fun b => [.ref (b + o), vI l1]) g (fun r => ((fun _ => none), r)) r := by
  refine ConX.of RX12 (by decide) rfl (fun b => Nat.le_of_ble_eq_true rfl) (fun x hX => ?_)
  have X := hX.ok
  unfold xReader_sign at h
  show V x 2 K 0 0 sz g 0 [(0, .ref (xb x + o)), (1, vI l1)] []
  refine V_aload_n X dX12_sign_0 0 rfl ?_
  obtain ⟨c1, hc1, h⟩ := bind_some_eq h
  refine V_callV (ci := 11) (N := 4) (T := TX12) (As := []) (rest := []) (s1 := [vI c1.1]) (o := o) X (con_xReader_now K hW N o hK0 g c1 hc1) gwX12_now_26 hdV_X12_now ⟨Nat.le_of_ble_eq_true rfl, Nat.le_of_ble_eq_true rfl⟩ rfl (by decide) hK0 rfl rfl (Nat.le_of_ble_eq_true rfl) ⟨Nat.zero_le _, Nat.zero_le _⟩ dX12_sign_1 rfl rfl ?_
  refine V_iload_n X dX12_sign_4 1 rfl ?_
  refine V_icmp_eq (tgt := 21) X dX12_sign_5 (by decide) h (fun h => ?_) (fun h => ?_)
  · refine V_aload_n X dX12_sign_21 0 rfl ?_
    refine V_dup X dX12_sign_22 rfl ?_
    refine V_get (ci := 11) (N := 4) (C := RX12) (T := TX12) (o := o) (j := 2) X rfl in_X12 (by decide) hK0 (by decide) q798 (fv_0 rfl) dX12_sign_23 ?_
    refine V_iconst X dX12_sign_26 ?_
    refine V_iadd X dX12_sign_27 ?_
    refine V_put (ty := .int) (ci := 11) (N := 4) (C := RX12) (T := TX12) (o := o) (j := 2) (a := ((gI c1.2 1102 o) + 1)) X rfl in_X12 tyX12 tyX12_ok nmX12 (by decide) hK0 (by decide) rfl pfd_I rfl rfl q798 (by rw [fv_0 rfl, gI_sI, if_pos ⟨rfl, rfl⟩]) dX12_sign_28 ?_
    have hr := Option.some.inj h
    subst hr
    exact V_end_v hX rfl dX12_sign_31
  · have hr := Option.some.inj h
    subst hr
    refine V_new (ci := 12) (N := 8) (C := RX13) (T := TX13) X rfl in_X13 tyX13 tyX13_ok (by decide) (by decide) q966 q924 q116 dfX13 (by rw [hX.2.2.1]; exact Or.inr (Nat.le_refl _)) ⟨Nat.le_of_ble_eq_true rfl, Nat.le_of_ble_eq_true rfl⟩ dX12_sign_8 ?_
    have hW := hWS.wk (kd := 13) rfl
    have hK0 := hWS.keep (kd := 13) hK0
    refine V_dup X dX12_sign_11 rfl ?_
    refine V_iconst X dX12_sign_12 ?_
    refine V_aload_n X dX12_sign_13 0 rfl ?_
    refine V_get (ci := 11) (N := 4) (C := RX12) (T := TX12) (o := o) (j := 2) X rfl in_X12 (by decide) hK0 (by decide) q798 (fv_0 rfl) dX12_sign_14 ?_
    refine V_callI (As := [vI 1, vI (gI (newI 12 sz c1.2) 1102 o)]) (rest := [.ref (xb x + sz)]) (s1 := [.ref (xb x + sz)]) (o := sz) X ((con_Wrong (ku K sz 13) sz ku_self (newI 12 sz c1.2) 1 (gI (newI 12 sz c1.2) 1102 o)).at1 (sz + 1)) q967 q933 q116 q934 hdI_Wrong ⟨Nat.le_of_ble_eq_true rfl, Nat.le_of_ble_eq_true rfl⟩ rfl rfl (Nat.le_of_ble_eq_true rfl) ⟨Nat.le_of_ble_eq_true rfl, Nat.le_of_ble_eq_true rfl⟩ dX12_sign_17 rfl rfl ?_
    exact V_throwO hX ⟨Nat.le_of_ble_eq_true rfl, Nat.le_of_ble_eq_true rfl⟩ dX12_sign_20
set_option maxHeartbeats 4000000 in
theorem con_xReader_opens (K : Nat → Nat) (hW : WFK K) (N : Nat) (o : Nat) (hK0 : K o = 12) (sz : Nat) (hWS : WFS K sz) (g : GS) (r : ((Nat × GS) ⊕ GS)) (h : xReader_opens N o sz g = some r) : ConX sz yX12_opens cX12_opens 1 none 7 160 K (fun b => [.ref (b + o)]) g (fun r => ((fun _ => none), r)) r := by
  refine ConX.of RX12 (by decide) rfl (fun b => Nat.le_of_ble_eq_true rfl) (fun x hX => ?_)
  have X := hX.ok
  unfold xReader_opens at h
  show V x 1 K 0 0 sz g 0 [(0, .ref (xb x + o))] []
  refine V_aload_n X dX12_opens_0 0 rfl ?_
  refine V_get (ci := 11) (N := 4) (C := RX12) (T := TX12) (o := o) (j := 3) X rfl in_X12 (by decide) hK0 (by decide) q799 (fv_0 rfl) dX12_opens_1 ?_
  refine V_bipush X dX12_opens_4 (by decide) ?_
  refine V_icmp_ne (tgt := 22) X dX12_opens_6 (by decide) h (fun h => ?_) (fun h => ?_)
  · refine V_aload_n X dX12_opens_22 0 rfl ?_
    refine V_dup X dX12_opens_23 rfl ?_
    refine V_get (ci := 11) (N := 4) (C := RX12) (T := TX12) (o := o) (j := 3) X rfl in_X12 (by decide) hK0 (by decide) q799 (fv_0 rfl) dX12_opens_24 ?_
    refine V_iconst X dX12_opens_27 ?_
    refine V_iadd X dX12_opens_28 ?_
    refine V_put (ty := .int) (ci := 11) (N := 4) (C := RX12) (T := TX12) (o := o) (j := 3) (a := ((gI g 1103 o) + 1)) X rfl in_X12 tyX12 tyX12_ok nmX12 (by decide) hK0 (by decide) rfl pfd_I rfl rfl q799 (by rw [fv_0 rfl, gI_sI, if_pos ⟨rfl, rfl⟩]) dX12_opens_29 ?_
    have hr := Option.some.inj h
    subst hr
    exact V_end_v hX rfl dX12_opens_32
  · obtain ⟨c15, hc15, h⟩ := bind_some_eq h
    have hr := Option.some.inj h
    subst hr
    refine V_new (ci := 12) (N := 8) (C := RX13) (T := TX13) X rfl in_X13 tyX13 tyX13_ok (by decide) (by decide) q966 q924 q116 dfX13 (by rw [hX.2.2.1]; exact Or.inr (Nat.le_refl _)) ⟨Nat.le_of_ble_eq_true rfl, Nat.le_of_ble_eq_true rfl⟩ dX12_opens_9 ?_
    have hW := hWS.wk (kd := 13) rfl
    have hK0 := hWS.keep (kd := 13) hK0
    refine V_dup X dX12_opens_12 rfl ?_
    refine V_iconst X dX12_opens_13 ?_
    refine V_aload_n X dX12_opens_14 0 rfl ?_
    refine V_callV (ci := 11) (N := 4) (T := TX12) (As := []) (rest := [vI 3, .ref (xb x + sz), .ref (xb x + sz)]) (s1 := [vI c15.1, vI 3, .ref (xb x + sz), .ref (xb x + sz)]) (o := o) X (con_xReader_place (ku K sz 13) hW N o hK0 (newI 12 sz g) c15 hc15) gwX12_place_30 hdV_X12_place ⟨Nat.le_of_ble_eq_true rfl, Nat.le_of_ble_eq_true rfl⟩ rfl (by decide) hK0 rfl rfl (Nat.le_of_ble_eq_true rfl) ⟨Nat.le_of_ble_eq_true rfl, Nat.le_of_ble_eq_true rfl⟩ dX12_opens_15 rfl rfl ?_
    refine V_callI (As := [vI 3, vI c15.1]) (rest := [.ref (xb x + sz)]) (s1 := [.ref (xb x + sz)]) (o := sz) X ((con_Wrong (ku K sz 13) sz ku_self c15.2 3 c15.1).at1 (sz + 1)) q967 q933 q116 q934 hdI_Wrong ⟨Nat.le_of_ble_eq_true rfl, Nat.le_of_ble_eq_true rfl⟩ rfl rfl (Nat.le_of_ble_eq_true rfl) ⟨Nat.le_of_ble_eq_true rfl, Nat.le_of_ble_eq_true rfl⟩ dX12_opens_18 rfl rfl ?_
    exact V_throwO hX ⟨Nat.le_of_ble_eq_true rfl, Nat.le_of_ble_eq_true rfl⟩ dX12_opens_21
set_option maxHeartbeats 4000000 in
theorem con_xReader_ends (K : Nat → Nat) (hW : WFK K) (N : Nat) (o : Nat) (hK0 : K o = 12) (sz : Nat) (hWS : WFS K sz) (g : GS) (r : ((Nat × GS) ⊕ GS)) (h : xReader_ends N o sz g = some r) : ConX sz yX12_ends cX12_ends 1 none 7 160 K (fun b => [.ref (b + o)]) g (fun r => ((fun _ => none), r)) r := by
  refine ConX.of RX12 (by decide) rfl (fun b => Nat.le_of_ble_eq_true rfl) (fun x hX => ?_)
  have X := hX.ok
  unfold xReader_ends at h
  show V x 1 K 0 0 sz g 0 [(0, .ref (xb x + o))] []
  refine V_aload_n X dX12_ends_0 0 rfl ?_
  obtain ⟨c1, hc1, h⟩ := bind_some_eq h
  refine V_callV (ci := 11) (N := 4) (T := TX12) (As := []) (rest := []) (s1 := [vI c1.1]) (o := o) X (con_xReader_now K hW N o hK0 g c1 hc1) gwX12_now_26 hdV_X12_now ⟨Nat.le_of_ble_eq_true rfl, Nat.le_of_ble_eq_true rfl⟩ rfl (by decide) hK0 rfl rfl (Nat.le_of_ble_eq_true rfl) ⟨Nat.zero_le _, Nat.zero_le _⟩ dX12_ends_1 rfl rfl ?_
  refine V_iconst X dX12_ends_4 ?_
  refine V_icmp_eq (tgt := 21) X dX12_ends_5 (by decide) h (fun h => ?_) (fun h => ?_)
  · have hr := Option.some.inj h
    subst hr
    exact V_end_v hX rfl dX12_ends_21
  · have hr := Option.some.inj h
    subst hr
    refine V_new (ci := 12) (N := 8) (C := RX13) (T := TX13) X rfl in_X13 tyX13 tyX13_ok (by decide) (by decide) q966 q924 q116 dfX13 (by rw [hX.2.2.1]; exact Or.inr (Nat.le_refl _)) ⟨Nat.le_of_ble_eq_true rfl, Nat.le_of_ble_eq_true rfl⟩ dX12_ends_8 ?_
    have hW := hWS.wk (kd := 13) rfl
    have hK0 := hWS.keep (kd := 13) hK0
    refine V_dup X dX12_ends_11 rfl ?_
    refine V_iconst X dX12_ends_12 ?_
    refine V_aload_n X dX12_ends_13 0 rfl ?_
    refine V_get (ci := 11) (N := 4) (C := RX12) (T := TX12) (o := o) (j := 2) X rfl in_X12 (by decide) hK0 (by decide) q798 (fv_0 rfl) dX12_ends_14 ?_
    refine V_callI (As := [vI 1, vI (gI (newI 12 sz c1.2) 1102 o)]) (rest := [.ref (xb x + sz)]) (s1 := [.ref (xb x + sz)]) (o := sz) X ((con_Wrong (ku K sz 13) sz ku_self (newI 12 sz c1.2) 1 (gI (newI 12 sz c1.2) 1102 o)).at1 (sz + 1)) q967 q933 q116 q934 hdI_Wrong ⟨Nat.le_of_ble_eq_true rfl, Nat.le_of_ble_eq_true rfl⟩ rfl rfl (Nat.le_of_ble_eq_true rfl) ⟨Nat.le_of_ble_eq_true rfl, Nat.le_of_ble_eq_true rfl⟩ dX12_ends_17 rfl rfl ?_
    exact V_throwO hX ⟨Nat.le_of_ble_eq_true rfl, Nat.le_of_ble_eq_true rfl⟩ dX12_ends_20
set_option maxHeartbeats 4000000 in
theorem con_xPlan_reads (K : Nat → Nat) (hW : WFK K) (N : Nat) (o : Nat) (hK0 : K o = 3) (l1 : Nat) (hK1 : K l1 = 12) (l2 : Nat) (hK2 : K l2 = 9) (sz : Nat) (hWS : WFS K sz) (g : GS) (r : ((Nat × GS) ⊕ GS)) (h : xPlan_reads N o l1 l2 sz g = some r) : ConX sz yX3_reads cX3_reads 9 none 8 184 K (fun b => [.ref (b + o), .ref (b + l1), .ref (b + l2)]) g (fun r => ((fun _ => none), r)) r := by
  refine ConX.of RX3 (by decide) rfl (fun b => Nat.le_of_ble_eq_true rfl) (fun x hX => ?_)
  have X := hX.ok
  have LL0 : ∀  (n : Nat) (s : (GS)) (e : ((Nat × GS) ⊕ GS)), loopN (fun s => xPlan_reads_b0 N o l1 l2 sz s) n s = some e → (e = r) → V x 9 K 0 0 sz s 0 [(0, .ref (xb x + o)), (1, .ref (xb x + l1)), (2, .ref (xb x + l2))] [] := by
    intro  n s e
    refine loop_walk (P := fun s => V x 9 K 0 0 sz s 0 [(0, .ref (xb x + o)), (1, .ref (xb x + l1)), (2, .ref (xb x + l2))] []) (E := fun e => e = r) ?_ n s e
    clear e s n
    rintro g q0 h hc0 he0
    replace h : xPlan_reads_b0 N o l1 l2 sz g = some q0 := h
    have J120 : ∀ (g : GS) (l4 : Int) (l6 : Int), xPlan_reads_j120 N o l1 l2 sz g l4 l6 = some q0 → V x 9 K 0 0 sz g 120 [(0, .ref (xb x + o)), (1, .ref (xb x + l1)), (2, .ref (xb x + l2)), (4, vI l4), (6, vI l6)] [] := by
      intro g l4 l6 h
      unfold xPlan_reads_j120 at h
      refine V_aload_n X dX3_reads_120 1 rfl ?_
      refine V_bipush X dX3_reads_121 (by decide) ?_
      obtain ⟨c123, hc123, h⟩ := bind_some_eq h
      rcases c123 with x123 | y123
      · replace h := thT_l h
        obtain ⟨e1, h, e1q⟩ := outR_some h
        replace h := h.trans (congrArg some (he0 _ e1q))
        have hr := Option.some.inj h
        subst hr
        exact V_callVT (ci := 11) (N := 4) (T := TX12) (As := [vI 59]) (rest := []) (o := l1) hX (con_xReader_sign K hW N l1 hK1 sz hWS g 59 (.inl x123) hc123) gwX3_sign_58 hdV_X12_sign ⟨Nat.le_of_ble_eq_true rfl, Nat.le_of_ble_eq_true rfl⟩ rfl (by decide) hK1 rfl rfl (Nat.le_of_ble_eq_true rfl) dX3_reads_123 rfl
      replace h := thT_r h
      refine V_callV1 (ci := 11) (N := 4) (T := TX12) (As := [vI 59]) (rest := []) (s1 := []) (o := l1) X (con_xReader_sign K hW N l1 hK1 sz hWS g 59 (.inr y123) hc123) gwX3_sign_58 hdV_X12_sign ⟨Nat.le_of_ble_eq_true rfl, Nat.le_of_ble_eq_true rfl⟩ rfl (by decide) hK1 rfl rfl (Nat.le_of_ble_eq_true rfl) ⟨Nat.zero_le _, Nat.zero_le _⟩ dX3_reads_123 rfl rfl ?_
      refine V_aload_n X dX3_reads_126 0 rfl ?_
      refine V_get (ci := 2) (N := 3) (C := RX3) (T := TX3) (o := o) (j := 1) X rfl in_X3 (by decide) hK0 (by decide) q155 (fv_1 (i := (o + 2)) rfl rfl) dX3_reads_127 ?_
      refine V_aload_n X dX3_reads_130 0 rfl ?_
      refine V_get (ci := 2) (N := 3) (C := RX3) (T := TX3) (o := o) (j := 2) X rfl in_X3 (by decide) hK0 (by decide) q158 (fv_0 rfl) dX3_reads_131 ?_
      refine V_iload X dX3_reads_134 4 rfl ?_
      refine V_iast X (o := (o + 2)) (n := 12) (hW.blk (by decide) hK0 2 (by decide) rfl) (by decide) dX3_reads_136 h (fun g136 h => ?_)
      refine V_aload_n X dX3_reads_137 0 rfl ?_
      refine V_get (ci := 2) (N := 3) (C := RX3) (T := TX3) (o := o) (j := 0) X rfl in_X3 (by decide) hK0 (by decide) q152 (fv_1 (i := (o + 1)) rfl rfl) dX3_reads_138 ?_
      refine V_aload_n X dX3_reads_141 0 rfl ?_
      refine V_dup X dX3_reads_142 rfl ?_
      refine V_get (ci := 2) (N := 3) (C := RX3) (T := TX3) (o := o) (j := 2) X rfl in_X3 (by decide) hK0 (by decide) q158 (fv_0 rfl) dX3_reads_143 ?_
      refine V_dup_x1 X dX3_reads_146 rfl rfl ?_
      refine V_iconst X dX3_reads_147 ?_
      refine V_iadd X dX3_reads_148 ?_
      refine V_put (ty := .int) (ci := 2) (N := 3) (C := RX3) (T := TX3) (o := o) (j := 2) (a := ((gI g136 202 o) + 1)) X rfl in_X3 tyX3 tyX3_ok nmX3 (by decide) hK0 (by decide) rfl pfd_I rfl rfl q158 (by rw [fv_0 rfl, gI_sI, if_pos ⟨rfl, rfl⟩]) dX3_reads_149 ?_
      refine V_iload X dX3_reads_152 3 rfl ?_
      refine V_iast X (o := (o + 1)) (n := 12) (hW.blk (by decide) hK0 1 (by decide) rfl) (by decide) dX3_reads_154 h (fun g154 h => ?_)
      refine V_goto (tgt := 0) X dX3_reads_155 (by decide) ?_
      exact V_sub [0, 1, 2] rfl (hc0 _ (Option.some.inj h).symm)
    unfold xPlan_reads_b0 at h
    show V x 9 K 0 0 sz g 0 [(0, .ref (xb x + o)), (1, .ref (xb x + l1)), (2, .ref (xb x + l2))] []
    refine V_aload_n X dX3_reads_0 1 rfl ?_
    obtain ⟨c1, hc1, h⟩ := bind_some_eq h
    refine V_callV (ci := 11) (N := 4) (T := TX12) (As := []) (rest := []) (s1 := [vI c1.1]) (o := l1) X (con_xReader_now K hW N l1 hK1 g c1 hc1) gwX3_now_28 hdV_X12_now ⟨Nat.le_of_ble_eq_true rfl, Nat.le_of_ble_eq_true rfl⟩ rfl (by decide) hK1 rfl rfl (Nat.le_of_ble_eq_true rfl) ⟨Nat.zero_le _, Nat.zero_le _⟩ dX3_reads_1 rfl rfl ?_
    refine V_iconst X dX3_reads_4 ?_
    refine V_icmp_eq (tgt := 158) X dX3_reads_5 (by decide) h (fun h => ?_) (fun h => ?_)
    · obtain ⟨e2, h, e2q⟩ := outR_some h
      replace h := h.trans (congrArg some (he0 _ e2q))
      have hr := Option.some.inj h
      subst hr
      exact V_end_v hX rfl dX3_reads_158
    · refine V_aload_n X dX3_reads_8 1 rfl ?_
      obtain ⟨c9, hc9, h⟩ := bind_some_eq h
      refine V_callV (ci := 11) (N := 4) (T := TX12) (As := []) (rest := []) (s1 := [vI c9.1]) (o := l1) X (con_xReader_place K hW N l1 hK1 c1.2 c9 hc9) gwX3_place_34 hdV_X12_place ⟨Nat.le_of_ble_eq_true rfl, Nat.le_of_ble_eq_true rfl⟩ rfl (by decide) hK1 rfl rfl (Nat.le_of_ble_eq_true rfl) ⟨Nat.zero_le _, Nat.zero_le _⟩ dX3_reads_9 rfl rfl ?_
      refine V_istore_n X dX3_reads_12 (by decide) (L' := [(3, vI c9.1), (0, .ref (xb x + o)), (1, .ref (xb x + l1)), (2, .ref (xb x + l2))]) rfl ?_
      refine V_aload_n X dX3_reads_13 2 rfl ?_
      refine V_iconst X dX3_reads_14 ?_
      refine V_aload_n X dX3_reads_15 3 rfl ?_
      refine V_getN (ci := 8) (N := 24) (C := RX9) (T := TX9) (o := l2) (j := 14) X rfl in_X9 (by decide) hK2 (by decide) q403 (fv_0 rfl) dX3_reads_16 ?_
      refine V_iconst X dX3_reads_19 ?_
      refine V_isub X dX3_reads_20 ?_
      obtain ⟨c21, hc21, h⟩ := bind_some_eq h
      rcases c21 with x21 | y21
      · replace h := thT_l h
        obtain ⟨e3, h, e3q⟩ := outR_some h
        replace h := h.trans (congrArg some (he0 _ e3q))
        have hr := Option.some.inj h
        subst hr
        exact V_callVT (ci := 11) (N := 4) (T := TX12) (As := [vI 0, vI ((gI c9.2 814 l2) - 1)]) (rest := []) (o := l1) hX (con_xReader_number K hW N l1 hK1 sz hWS c9.2 0 ((gI c9.2 814 l2) - 1) (.inl x21) hc21) gwX3_number_42 hdV_X12_number ⟨Nat.le_of_ble_eq_true rfl, Nat.le_of_ble_eq_true rfl⟩ rfl (by decide) hK1 rfl rfl (Nat.le_of_ble_eq_true rfl) dX3_reads_21 rfl
      replace h := thT_r h
      refine V_callV1 (ci := 11) (N := 4) (T := TX12) (As := [vI 0, vI ((gI c9.2 814 l2) - 1)]) (rest := []) (s1 := [vI y21.1]) (o := l1) X (con_xReader_number K hW N l1 hK1 sz hWS c9.2 0 ((gI c9.2 814 l2) - 1) (.inr y21) hc21) gwX3_number_42 hdV_X12_number ⟨Nat.le_of_ble_eq_true rfl, Nat.le_of_ble_eq_true rfl⟩ rfl (by decide) hK1 rfl rfl (Nat.le_of_ble_eq_true rfl) ⟨Nat.zero_le _, Nat.zero_le _⟩ dX3_reads_21 rfl rfl ?_
      refine V_istore X dX3_reads_24 (by decide) (L' := [(4, vI y21.1), (3, vI c9.1), (0, .ref (xb x + o)), (1, .ref (xb x + l1)), (2, .ref (xb x + l2))]) rfl ?_
      refine V_aload_n X dX3_reads_26 2 rfl ?_
      refine V_iload X dX3_reads_27 0 rfl ?_
      obtain ⟨c29, hc29, h⟩ := bind_some_eq h
      refine V_callV (ci := 2) (N := 3) (T := TX3) (As := [vI y21.1]) (rest := []) (s1 := [vI c29]) (o := o) X (con_xPlan_lineOf K hW N o hK0 y21.2 y21.1 c29 hc29) gwX3_lineOf_46 hdV_X3_lineOf ⟨Nat.le_of_ble_eq_true rfl, Nat.le_of_ble_eq_true rfl⟩ rfl (by decide) hK0 rfl rfl (Nat.le_of_ble_eq_true rfl) ⟨Nat.zero_le _, Nat.zero_le _⟩ dX3_reads_29 rfl rfl ?_
      refine V_iconst X dX3_reads_32 ?_
      refine V_icmp_eq (tgt := 46) X dX3_reads_33 (by decide) h (fun h => ?_) (fun h => ?_)
      · refine V_aload_n X dX3_reads_46 3 rfl ?_
        refine V_iconst X dX3_reads_47 ?_
        refine V_aload_n X dX3_reads_48 4 rfl ?_
        refine V_getN (ci := 8) (N := 24) (C := RX9) (T := TX9) (o := l2) (j := 13) X rfl in_X9 (by decide) hK2 (by decide) q398 (fv_0 rfl) dX3_reads_49 ?_
        refine V_iconst X dX3_reads_52 ?_
        refine V_isub X dX3_reads_53 ?_
        obtain ⟨c54, hc54, h⟩ := bind_some_eq h
        rcases c54 with x54 | y54
        · replace h := thT_l h
          obtain ⟨e4, h, e4q⟩ := outR_some h
          replace h := h.trans (congrArg some (he0 _ e4q))
          have hr := Option.some.inj h
          subst hr
          exact V_callVT (ci := 11) (N := 4) (T := TX12) (As := [vI 0, vI ((gI y21.2 813 l2) - 1)]) (rest := []) (o := l1) hX (con_xReader_number K hW N l1 hK1 sz hWS y21.2 0 ((gI y21.2 813 l2) - 1) (.inl x54) hc54) gwX3_number_42 hdV_X12_number ⟨Nat.le_of_ble_eq_true rfl, Nat.le_of_ble_eq_true rfl⟩ rfl (by decide) hK1 rfl rfl (Nat.le_of_ble_eq_true rfl) dX3_reads_54 rfl
        replace h := thT_r h
        refine V_callV1 (ci := 11) (N := 4) (T := TX12) (As := [vI 0, vI ((gI y21.2 813 l2) - 1)]) (rest := []) (s1 := [vI y54.1]) (o := l1) X (con_xReader_number K hW N l1 hK1 sz hWS y21.2 0 ((gI y21.2 813 l2) - 1) (.inr y54) hc54) gwX3_number_42 hdV_X12_number ⟨Nat.le_of_ble_eq_true rfl, Nat.le_of_ble_eq_true rfl⟩ rfl (by decide) hK1 rfl rfl (Nat.le_of_ble_eq_true rfl) ⟨Nat.zero_le _, Nat.zero_le _⟩ dX3_reads_54 rfl rfl ?_
        refine V_istore X dX3_reads_57 (by decide) (L' := [(5, vI y54.1), (4, vI y21.1), (3, vI c9.1), (0, .ref (xb x + o)), (1, .ref (xb x + l1)), (2, .ref (xb x + l2))]) rfl ?_
        refine V_iconst X dX3_reads_59 ?_
        refine V_iload X dX3_reads_60 0 rfl ?_
        refine V_ishl X dX3_reads_62 ?_
        refine V_istore X dX3_reads_63 (by decide) (L' := [(6, vI (i_shl 1 y54.1)), (5, vI y54.1), (4, vI y21.1), (3, vI c9.1), (0, .ref (xb x + o)), (1, .ref (xb x + l1)), (2, .ref (xb x + l2))]) rfl ?_
        refine V_aload_n X dX3_reads_65 5 rfl ?_
        obtain ⟨c66, hc66, h⟩ := bind_some_eq h
        refine V_callV (ci := 11) (N := 4) (T := TX12) (As := []) (rest := []) (s1 := [vI c66.1]) (o := l1) X (con_xReader_now K hW N l1 hK1 y54.2 c66 hc66) gwX3_now_28 hdV_X12_now ⟨Nat.le_of_ble_eq_true rfl, Nat.le_of_ble_eq_true rfl⟩ rfl (by decide) hK1 rfl rfl (Nat.le_of_ble_eq_true rfl) ⟨Nat.zero_le _, Nat.zero_le _⟩ dX3_reads_66 rfl rfl ?_
        refine V_bipush X dX3_reads_69 (by decide) ?_
        refine V_icmp_eq (tgt := 120) X dX3_reads_71 (by decide) h (fun h => ?_) (fun h => ?_)
        · exact V_sub [4, 5, 6, 2, 0] rfl (J120 _ _ _ h)
        · refine V_aload_n X dX3_reads_74 5 rfl ?_
          obtain ⟨c75, hc75, h⟩ := bind_some_eq h
          refine V_callV (ci := 11) (N := 4) (T := TX12) (As := []) (rest := []) (s1 := [vI c75.1]) (o := l1) X (con_xReader_place K hW N l1 hK1 c66.2 c75 hc75) gwX3_place_34 hdV_X12_place ⟨Nat.le_of_ble_eq_true rfl, Nat.le_of_ble_eq_true rfl⟩ rfl (by decide) hK1 rfl rfl (Nat.le_of_ble_eq_true rfl) ⟨Nat.zero_le _, Nat.zero_le _⟩ dX3_reads_75 rfl rfl ?_
          refine V_istore X dX3_reads_78 (by decide) (L' := [(7, vI c75.1), (6, vI (i_shl 1 y54.1)), (5, vI y54.1), (4, vI y21.1), (3, vI c9.1), (0, .ref (xb x + o)), (1, .ref (xb x + l1)), (2, .ref (xb x + l2))]) rfl ?_
          refine V_aload_n X dX3_reads_80 6 rfl ?_
          refine V_iconst X dX3_reads_81 ?_
          refine V_aload_n X dX3_reads_82 7 rfl ?_
          refine V_getN (ci := 8) (N := 24) (C := RX9) (T := TX9) (o := l2) (j := 13) X rfl in_X9 (by decide) hK2 (by decide) q398 (fv_0 rfl) dX3_reads_83 ?_
          refine V_iconst X dX3_reads_86 ?_
          refine V_isub X dX3_reads_87 ?_
          obtain ⟨c88, hc88, h⟩ := bind_some_eq h
          rcases c88 with x88 | y88
          · replace h := thT_l h
            obtain ⟨e5, h, e5q⟩ := outR_some h
            replace h := h.trans (congrArg some (he0 _ e5q))
            have hr := Option.some.inj h
            subst hr
            exact V_callVT (ci := 11) (N := 4) (T := TX12) (As := [vI 0, vI ((gI c75.2 813 l2) - 1)]) (rest := []) (o := l1) hX (con_xReader_number K hW N l1 hK1 sz hWS c75.2 0 ((gI c75.2 813 l2) - 1) (.inl x88) hc88) gwX3_number_42 hdV_X12_number ⟨Nat.le_of_ble_eq_true rfl, Nat.le_of_ble_eq_true rfl⟩ rfl (by decide) hK1 rfl rfl (Nat.le_of_ble_eq_true rfl) dX3_reads_88 rfl
          replace h := thT_r h
          refine V_callV1 (ci := 11) (N := 4) (T := TX12) (As := [vI 0, vI ((gI c75.2 813 l2) - 1)]) (rest := []) (s1 := [vI y88.1]) (o := l1) X (con_xReader_number K hW N l1 hK1 sz hWS c75.2 0 ((gI c75.2 813 l2) - 1) (.inr y88) hc88) gwX3_number_42 hdV_X12_number ⟨Nat.le_of_ble_eq_true rfl, Nat.le_of_ble_eq_true rfl⟩ rfl (by decide) hK1 rfl rfl (Nat.le_of_ble_eq_true rfl) ⟨Nat.zero_le _, Nat.zero_le _⟩ dX3_reads_88 rfl rfl ?_
          refine V_istore X dX3_reads_91 (by decide) (L' := [(8, vI y88.1), (7, vI c75.1), (6, vI (i_shl 1 y54.1)), (5, vI y54.1), (4, vI y21.1), (3, vI c9.1), (0, .ref (xb x + o)), (1, .ref (xb x + l1)), (2, .ref (xb x + l2))]) rfl ?_
          refine V_iload X dX3_reads_93 0 rfl ?_
          refine V_iload X dX3_reads_95 3 rfl ?_
          refine V_icmp_ne (tgt := 111) X dX3_reads_97 (by decide) h (fun h => ?_) (fun h => ?_)
          · refine V_iload X dX3_reads_111 2 rfl ?_
            refine V_iconst X dX3_reads_113 ?_
            refine V_iload X dX3_reads_114 0 rfl ?_
            refine V_ishl X dX3_reads_116 ?_
            refine V_ior X dX3_reads_117 ?_
            refine V_istore X dX3_reads_118 (by decide) (L' := [(6, vI (i_or (i_shl 1 y54.1) (i_shl 1 y88.1))), (8, vI y88.1), (7, vI c75.1), (5, vI y54.1), (4, vI y21.1), (3, vI c9.1), (0, .ref (xb x + o)), (1, .ref (xb x + l1)), (2, .ref (xb x + l2))]) rfl ?_
            exact V_sub [6, 7, 8, 4, 0] rfl (J120 _ _ _ h)
          · obtain ⟨e6, h, e6q⟩ := outR_some h
            replace h := h.trans (congrArg some (he0 _ e6q))
            have hr := Option.some.inj h
            subst hr
            refine V_new (ci := 12) (N := 8) (C := RX13) (T := TX13) X rfl in_X13 tyX13 tyX13_ok (by decide) (by decide) q1109 q924 q116 dfX13 (by rw [hX.2.2.1]; exact Or.inr (Nat.le_refl _)) ⟨Nat.le_of_ble_eq_true rfl, Nat.le_of_ble_eq_true rfl⟩ dX3_reads_100 ?_
            have hW := hWS.wk (kd := 13) rfl
            have hK0 := hWS.keep (kd := 13) hK0
            refine V_dup X dX3_reads_103 rfl ?_
            refine V_iconst X dX3_reads_104 ?_
            refine V_iload X dX3_reads_105 1 rfl ?_
            refine V_callI (As := [vI 2, vI c75.1]) (rest := [.ref (xb x + sz)]) (s1 := [.ref (xb x + sz)]) (o := sz) X ((con_Wrong (ku K sz 13) sz ku_self (newI 12 sz y88.2) 2 c75.1).at1 (sz + 1)) q1110 q933 q116 q934 hdI_Wrong ⟨Nat.le_of_ble_eq_true rfl, Nat.le_of_ble_eq_true rfl⟩ rfl rfl (Nat.le_of_ble_eq_true rfl) ⟨Nat.le_of_ble_eq_true rfl, Nat.le_of_ble_eq_true rfl⟩ dX3_reads_107 rfl rfl ?_
            exact V_throwO hX ⟨Nat.le_of_ble_eq_true rfl, Nat.le_of_ble_eq_true rfl⟩ dX3_reads_110
      · obtain ⟨e7, h, e7q⟩ := outR_some h
        replace h := h.trans (congrArg some (he0 _ e7q))
        have hr := Option.some.inj h
        subst hr
        refine V_new (ci := 12) (N := 8) (C := RX13) (T := TX13) X rfl in_X13 tyX13 tyX13_ok (by decide) (by decide) q1109 q924 q116 dfX13 (by rw [hX.2.2.1]; exact Or.inr (Nat.le_refl _)) ⟨Nat.le_of_ble_eq_true rfl, Nat.le_of_ble_eq_true rfl⟩ dX3_reads_36 ?_
        have hW := hWS.wk (kd := 13) rfl
        have hK0 := hWS.keep (kd := 13) hK0
        refine V_dup X dX3_reads_39 rfl ?_
        refine V_iconst X dX3_reads_40 ?_
        refine V_iload_n X dX3_reads_41 1 rfl ?_
        refine V_callI (As := [vI 2, vI c9.1]) (rest := [.ref (xb x + sz)]) (s1 := [.ref (xb x + sz)]) (o := sz) X ((con_Wrong (ku K sz 13) sz ku_self (newI 12 sz y21.2) 2 c9.1).at1 (sz + 1)) q1110 q933 q116 q934 hdI_Wrong ⟨Nat.le_of_ble_eq_true rfl, Nat.le_of_ble_eq_true rfl⟩ rfl rfl (Nat.le_of_ble_eq_true rfl) ⟨Nat.le_of_ble_eq_true rfl, Nat.le_of_ble_eq_true rfl⟩ dX3_reads_42 rfl rfl ?_
        exact V_throwO hX ⟨Nat.le_of_ble_eq_true rfl, Nat.le_of_ble_eq_true rfl⟩ dX3_reads_45
  unfold xPlan_reads at h
  show V x 9 K 0 0 sz g 0 [(0, .ref (xb x + o)), (1, .ref (xb x + l1)), (2, .ref (xb x + l2))] []
  exact V_sub [0, 1, 2] rfl (LL0 N g _ h rfl)
