set_option maxRecDepth 100000
theorem hdV_X12_isWord : yX12_isWord.cls = RX12 ∧ yX12_isWord.cls ≠ "java/lang/invoke/MethodHandle" ∧ yX12_isWord.cls ≠ "java/lang/invoke/VarHandle" ∧ (parseMethodDescriptor yX12_isWord.desc).map (fun d => d.parameters.length) = some 1 := by decide +kernel
theorem gwX12_isWord_46 : GoodIn lw_all (wsV RX12 46 RX12 yX12_isWord (ws_ yX12_isWord cX12_isWord 5 (some .boolean))) := lw_V q867 q868 q869 q111 q870
theorem gwX11_sign_139 : GoodIn lw_all (wsV RX11 139 RX12 yX12_sign (ws_ yX12_sign cX12_sign 2 none)) := lw_V q982 q983 q984 q111 q985
theorem gwX11_place_80 : GoodIn lw_all (wsV RX11 80 RX12 yX12_place (ws_ yX12_place cX12_place 1 (some .int))) := lw_V q858 q859 q860 q111 q861
theorem hdV_X12_which : yX12_which.cls = RX12 ∧ yX12_which.cls ≠ "java/lang/invoke/MethodHandle" ∧ yX12_which.cls ≠ "java/lang/invoke/VarHandle" ∧ (parseMethodDescriptor yX12_which.desc).map (fun d => d.parameters.length) = some 1 := by decide +kernel
theorem gwX11_which_83 : GoodIn lw_all (wsV RX11 83 RX12 yX12_which (ws_ yX12_which cX12_which 3 (some .int))) := lw_V q863 q864 q865 q111 q866
theorem hdV_X11_isFull : yX11_isFull.cls = RX11 ∧ yX11_isFull.cls ≠ "java/lang/invoke/MethodHandle" ∧ yX11_isFull.cls ≠ "java/lang/invoke/VarHandle" ∧ (parseMethodDescriptor yX11_isFull.desc).map (fun d => d.parameters.length) = some 1 := by decide +kernel
theorem gwX11_isFull_95 : GoodIn lw_all (wsV RX11 95 RX11 yX11_isFull (ws_ yX11_isFull cX11_isFull 2 (some .boolean))) := lw_V q951 q953 qs13 q110 q954
theorem hdV_X12_skipsWord : yX12_skipsWord.cls = RX12 ∧ yX12_skipsWord.cls ≠ "java/lang/invoke/MethodHandle" ∧ yX12_skipsWord.cls ≠ "java/lang/invoke/VarHandle" ∧ (parseMethodDescriptor yX12_skipsWord.desc).map (fun d => d.parameters.length) = some 0 := by decide +kernel
theorem gwX11_skipsWord_99 : GoodIn lw_all (wsV RX11 99 RX12 yX12_skipsWord (ws_ yX12_skipsWord cX12_skipsWord 1 none)) := lw_V q955 q956 q957 q111 q958
theorem hdV_X11_deed : yX11_deed.cls = RX11 ∧ yX11_deed.cls ≠ "java/lang/invoke/MethodHandle" ∧ yX11_deed.cls ≠ "java/lang/invoke/VarHandle" ∧ (parseMethodDescriptor yX11_deed.desc).map (fun d => d.parameters.length) = some 1 := by decide +kernel
theorem gwX11_deed_110 : GoodIn lw_all (wsV RX11 110 RX11 yX11_deed (ws_ yX11_deed cX11_deed 2 none)) := lw_V q970 q972 qs14 q110 q973
theorem hdV_X11_rain : yX11_rain.cls = RX11 ∧ yX11_rain.cls ≠ "java/lang/invoke/MethodHandle" ∧ yX11_rain.cls ≠ "java/lang/invoke/VarHandle" ∧ (parseMethodDescriptor yX11_rain.desc).map (fun d => d.parameters.length) = some 1 := by decide +kernel
theorem gwX11_rain_113 : GoodIn lw_all (wsV RX11 113 RX11 yX11_rain (ws_ yX11_rain cX11_rain 2 none)) := lw_V q974 q976 qs15 q110 q977
theorem hdV_X11_cause : yX11_cause.cls = RX11 ∧ yX11_cause.cls ≠ "java/lang/invoke/MethodHandle" ∧ yX11_cause.cls ≠ "java/lang/invoke/VarHandle" ∧ (parseMethodDescriptor yX11_cause.desc).map (fun d => d.parameters.length) = some 1 := by decide +kernel
theorem gwX11_cause_121 : GoodIn lw_all (wsV RX11 121 RX11 yX11_cause (ws_ yX11_cause cX11_cause 3 none)) := lw_V q978 q980 qs16 q110 q981
theorem gwX11_now_52 : GoodIn lw_all (wsV RX11 52 RX12 yX12_now (ws_ yX12_now cX12_now 1 (some .int))) := lw_V q846 q847 q848 q111 q849
theorem hdV_X11_clause : yX11_clause.cls = RX11 ∧ yX11_clause.cls ≠ "java/lang/invoke/MethodHandle" ∧ yX11_clause.cls ≠ "java/lang/invoke/VarHandle" ∧ (parseMethodDescriptor yX11_clause.desc).map (fun d => d.parameters.length) = some 0 := by decide +kernel
theorem gwX11_clause_58 : GoodIn lw_all (wsV RX11 58 RX11 yX11_clause (ws_ yX11_clause cX11_clause 4 none)) := lw_V q854 q856 qs12 q110 q857
set_option maxHeartbeats 4000000 in
theorem con_xReader_which (K : Nat → Nat) (hW : WFK K) (N : Nat) (o : Nat) (hK0 : K o = 12) (l1 w1 : Nat) (hK1 : K l1 = 200 + w1 ∧ w1 < 2) (g : GS) (r : (Int × GS)) (h : xReader_which N K o l1 w1 g = some r) : Con yX12_which cX12_which 3 (some .int) 7 194 K (fun b => [.ref (b + o), .ref (b + l1)]) g (fun _ => some (vI r.1)) r.2 := by
  refine Con.of RX12 (by decide) rfl (fun b => Nat.le_of_ble_eq_true rfl) (fun x sz hX => ?_)
  have X := hX.1
  have LL2 : ∀  (n : Nat) (s : (GS × Int)) (e : (Int × GS)), loopN (fun s => xReader_which_b2 N K o l1 w1 s.1 s.2) n s = some e → (e = r) → V x 3 K 0 0 sz s.1 2 [(0, .ref (xb x + o)), (1, .ref (xb x + l1)), (2, vI s.2)] [] := by
    intro  n s e
    refine loop_walk (P := fun s => V x 3 K 0 0 sz s.1 2 [(0, .ref (xb x + o)), (1, .ref (xb x + l1)), (2, vI s.2)] []) (E := fun e => e = r) ?_ n s e
    clear e s n
    rintro ⟨g, l2⟩ q2 h hc2 he2
    replace h : xReader_which_b2 N K o l1 w1 g l2 = some q2 := h
    unfold xReader_which_b2 at h
    show V x 3 K 0 0 sz g 2 [(0, .ref (xb x + o)), (1, .ref (xb x + l1)), (2, vI l2)] []
    refine V_iload_n X dX12_which_2 2 rfl ?_
    refine V_aload_n X dX12_which_3 1 rfl ?_
    refine V_alenS (w := w1) X hK1.1 hK1.2 dX12_which_4 ?_
    refine V_icmp_ge (tgt := 26) X dX12_which_5 (by decide) h (fun h => ?_) (fun h => ?_)
    · obtain ⟨e1, h, e1q⟩ := outR_some h
      replace h := h.trans (congrArg some (he2 _ e1q))
      refine V_iconst X dX12_which_26 ?_
      have hr := Option.some.inj h
      subst hr
      exact V_end_i hX rfl dX12_which_27
    · refine V_aload_n X dX12_which_8 0 rfl ?_
      refine V_aload_n X dX12_which_9 1 rfl ?_
      refine V_iload_n X dX12_which_10 2 rfl ?_
      obtain ⟨v11, hnv11, hvv11, hlv11, h⟩ := rdW_some h
      refine V_aaldS (o := l1) (w := w1) X hK1.1 hK1.2 hnv11 hvv11 dX12_which_11 ?_
      obtain ⟨c12, hc12, h⟩ := bind_some_eq h
      refine V_callVE (a := xb x + o) (As := [.ref (x.2.2.1.2 1000 (wix w1 v11))]) (rest := []) (s1 := [vI c12.1]) X (con_xReader_isWord K hW N o hK0 (x.2.2.1.2 1000 (wix w1 v11)) (stx (wix w1 v11)) (asS (wix w1 v11) (wix_lt hlv11)) g c12 hc12) STR.blind (str_on X ((xok_sf X).strD (wix w1 v11) (wix_lt hlv11))) gwX12_isWord_46 hdV_X12_isWord (by decide) (fun H locs hS => recv_w (o := o) (ci := 11) (N := 4) (T := TX12) X rfl (by decide) hK0 hS) rfl rfl (Nat.le_of_ble_eq_true rfl) ⟨Nat.zero_le _, Nat.zero_le _⟩ dX12_which_12 rfl rfl ?_
      refine V_if_eq (tgt := 20) X dX12_which_15 (by decide) h (fun h => ?_) (fun h => ?_)
      · refine V_iinc X dX12_which_20 2 rfl (by decide) (L' := [(2, vI (l2 + 1)), (0, .ref (xb x + o)), (1, .ref (xb x + l1))]) rfl ?_
        refine V_goto (tgt := 2) X dX12_which_23 (by decide) ?_
        exact V_sub [1, 2, 0] rfl (hc2 _ (Option.some.inj h).symm)
      · obtain ⟨e2, h, e2q⟩ := outR_some h
        replace h := h.trans (congrArg some (he2 _ e2q))
        refine V_iload_n X dX12_which_18 2 rfl ?_
        have hr := Option.some.inj h
        subst hr
        exact V_end_i hX rfl dX12_which_19
  unfold xReader_which at h
  show V x 3 K 0 0 sz g 0 [(0, .ref (xb x + o)), (1, .ref (xb x + l1))] []
  refine V_iconst X dX12_which_0 ?_
  refine V_istore_n X dX12_which_1 (by decide) (L' := [(2, vI 0), (0, .ref (xb x + o)), (1, .ref (xb x + l1))]) rfl ?_
  exact V_sub [1, 2, 0] rfl (LL2 N (g, 0) _ h rfl)
set_option maxHeartbeats 4000000 in
theorem con_xRoadReader_clause (K : Nat → Nat) (hW : WFK K) (N : Nat) (o : Nat) (hK0 : K o = 11) (sz : Nat) (hWS : WFS K sz) (g : GS) (r : ((Nat × GS) ⊕ GS)) (h : xRoadReader_clause N K o sz g = some r) : ConX sz yX11_clause cX11_clause 4 none 9 216 K (fun b => [.ref (b + o)]) g (fun r => ((fun _ => none), r)) r := by
  refine ConX.of RX11 (by decide) rfl (fun b => Nat.le_of_ble_eq_true rfl) (fun x hX => ?_)
  have X := hX.ok
  have J478 : ∀ (g : GS), xRoadReader_clause_j478 N K o sz g = some r → V x 4 K 0 0 sz g 478 [(0, .ref (xb x + o))] [] := by
    intro g h
    unfold xRoadReader_clause_j478 at h
    refine V_aload_n X dX11_clause_478 0 rfl ?_
    refine V_get (ci := 10) (N := 4) (C := RX11) (T := TX11) (o := o) (j := 1) X rfl in_X11 (by decide) hK0 (by decide) q830 (fv_1 (i := (o + 1)) rfl rfl) dX11_clause_479 ?_
    refine V_bipush X dX11_clause_482 (by decide) ?_
    obtain ⟨c484, hc484, h⟩ := bind_some_eq h
    rcases c484 with x484 | y484
    · replace h := thT_l h
      have hr := Option.some.inj h
      subst hr
      exact V_callVT (ci := 11) (N := 4) (T := TX12) (As := [vI 59]) (rest := []) (o := (o + 1)) hX (con_xReader_sign K hW N (o + 1) (hW.blk (by decide) hK0 1 (by decide) rfl) sz hWS g 59 (.inl x484) hc484) gwX11_sign_139 hdV_X12_sign ⟨Nat.le_of_ble_eq_true rfl, Nat.le_of_ble_eq_true rfl⟩ rfl (by decide) (hW.blk (by decide) hK0 1 (by decide) rfl) rfl rfl (Nat.le_of_ble_eq_true rfl) dX11_clause_484 rfl
    replace h := thT_r h
    refine V_callV1 (ci := 11) (N := 4) (T := TX12) (As := [vI 59]) (rest := []) (s1 := []) (o := (o + 1)) X (con_xReader_sign K hW N (o + 1) (hW.blk (by decide) hK0 1 (by decide) rfl) sz hWS g 59 (.inr y484) hc484) gwX11_sign_139 hdV_X12_sign ⟨Nat.le_of_ble_eq_true rfl, Nat.le_of_ble_eq_true rfl⟩ rfl (by decide) (hW.blk (by decide) hK0 1 (by decide) rfl) rfl rfl (Nat.le_of_ble_eq_true rfl) ⟨Nat.zero_le _, Nat.zero_le _⟩ dX11_clause_484 rfl rfl ?_
    have hr := Option.some.inj h
    subst hr
    exact V_end_v hX rfl dX11_clause_487
  have J52 : ∀ (g : GS) (l1 : Int), xRoadReader_clause_j52 N K o sz g l1 = some r → V x 4 K 0 0 sz g 52 [(1, vI l1)] [] := by
    intro g l1 h
    unfold xRoadReader_clause_j52 at h
    have hr := Option.some.inj h
    subst hr
    refine V_new (ci := 12) (N := 8) (C := RX13) (T := TX13) X rfl in_X13 tyX13 tyX13_ok (by decide) (by decide) q923 q924 q116 dfX13 (by rw [hX.2.2.1]; exact Or.inr (Nat.le_refl _)) ⟨Nat.le_of_ble_eq_true rfl, Nat.le_of_ble_eq_true rfl⟩ dX11_clause_52 ?_
    have hW := hWS.wk (kd := 13) rfl
    have hK0 := hWS.keep (kd := 13) hK0
    refine V_dup X dX11_clause_55 rfl ?_
    refine V_iconst X dX11_clause_56 ?_
    refine V_iload_n X dX11_clause_57 0 rfl ?_
    refine V_callI (As := [vI 3, vI l1]) (rest := [.ref (xb x + sz)]) (s1 := [.ref (xb x + sz)]) (o := sz) X ((con_Wrong (ku K sz 13) sz ku_self (newI 12 sz g) 3 l1).at1 (sz + 1)) q932 q933 q116 q934 hdI_Wrong ⟨Nat.le_of_ble_eq_true rfl, Nat.le_of_ble_eq_true rfl⟩ rfl rfl (Nat.le_of_ble_eq_true rfl) ⟨Nat.le_of_ble_eq_true rfl, Nat.le_of_ble_eq_true rfl⟩ dX11_clause_58 rfl rfl ?_
    exact V_throwO hX ⟨Nat.le_of_ble_eq_true rfl, Nat.le_of_ble_eq_true rfl⟩ dX11_clause_61
  unfold xRoadReader_clause at h
  show V x 4 K 0 0 sz g 0 [(0, .ref (xb x + o))] []
  refine V_aload_n X dX11_clause_0 0 rfl ?_
  refine V_get (ci := 10) (N := 4) (C := RX11) (T := TX11) (o := o) (j := 1) X rfl in_X11 (by decide) hK0 (by decide) q830 (fv_1 (i := (o + 1)) rfl rfl) dX11_clause_1 ?_
  obtain ⟨c4, hc4, h⟩ := bind_some_eq h
  refine V_callV (ci := 11) (N := 4) (T := TX12) (As := []) (rest := []) (s1 := [vI c4.1]) (o := (o + 1)) X (con_xReader_place K hW N (o + 1) (hW.blk (by decide) hK0 1 (by decide) rfl) g c4 hc4) gwX11_place_80 hdV_X12_place ⟨Nat.le_of_ble_eq_true rfl, Nat.le_of_ble_eq_true rfl⟩ rfl (by decide) (hW.blk (by decide) hK0 1 (by decide) rfl) rfl rfl (Nat.le_of_ble_eq_true rfl) ⟨Nat.zero_le _, Nat.zero_le _⟩ dX11_clause_4 rfl rfl ?_
  refine V_istore_n X dX11_clause_7 (by decide) (L' := [(1, vI c4.1), (0, .ref (xb x + o))]) rfl ?_
  refine V_aload_n X dX11_clause_8 1 rfl ?_
  refine V_get (ci := 10) (N := 4) (C := RX11) (T := TX11) (o := o) (j := 1) X rfl in_X11 (by decide) hK0 (by decide) q830 (fv_1 (i := (o + 1)) rfl rfl) dX11_clause_9 ?_
  refine V_aload_n X dX11_clause_12 1 rfl ?_
  refine V_get (ci := 10) (N := 4) (C := RX11) (T := TX11) (o := o) (j := 0) X rfl in_X11 (by decide) hK0 (by decide) q829 (fv_1 (i := (o + 2)) rfl rfl) dX11_clause_13 ?_
  obtain ⟨c16, hc16, h⟩ := bind_some_eq h
  refine V_callV (ci := 11) (N := 4) (T := TX12) (As := [.ref (xb x + (o + 2))]) (rest := []) (s1 := [vI c16.1]) (o := (o + 1)) X (con_xReader_which K hW N (o + 1) (hW.blk (by decide) hK0 1 (by decide) rfl) (o + 2) 0 ⟨(hW.blk (by decide) hK0 2 (by decide) rfl), (by decide)⟩ c4.2 c16 hc16) gwX11_which_83 hdV_X12_which ⟨Nat.le_of_ble_eq_true rfl, Nat.le_of_ble_eq_true rfl⟩ rfl (by decide) (hW.blk (by decide) hK0 1 (by decide) rfl) rfl rfl (Nat.le_of_ble_eq_true rfl) ⟨Nat.zero_le _, Nat.zero_le _⟩ dX11_clause_16 rfl rfl ?_
  refine V_istore_n X dX11_clause_19 (by decide) (L' := [(2, vI c16.1), (1, vI c4.1), (0, .ref (xb x + o))]) rfl ?_
  refine V_iload_n X dX11_clause_20 0 rfl ?_
  refine V_iconst X dX11_clause_21 ?_
  refine V_icmp_ne (tgt := 35) X dX11_clause_22 (by decide) h (fun h => ?_) (fun h => ?_)
  · refine V_aload_n X dX11_clause_35 2 rfl ?_
    refine V_get (ci := 10) (N := 4) (C := RX11) (T := TX11) (o := o) (j := 3) X rfl in_X11 (by decide) hK0 (by decide) q832 (fv_0 rfl) dX11_clause_36 ?_
    refine V_bipush X dX11_clause_39 (by decide) ?_
    refine V_icmp_eq (tgt := 52) X dX11_clause_41 (by decide) h (fun h => ?_) (fun h => ?_)
    · exact V_sub [1] rfl (J52 _ _ h)
    · refine V_aload_n X dX11_clause_44 2 rfl ?_
      refine V_iload_n X dX11_clause_45 0 rfl ?_
      obtain ⟨c46, hc46, h⟩ := bind_some_eq h
      refine V_callV (ci := 10) (N := 4) (T := TX11) (As := [vI c16.1]) (rest := []) (s1 := [vI c46]) (o := o) X (con_xRoadReader_isFull K hW o hK0 c16.2 c16.1 c46 hc46) gwX11_isFull_95 hdV_X11_isFull ⟨Nat.le_of_ble_eq_true rfl, Nat.le_of_ble_eq_true rfl⟩ rfl (by decide) hK0 rfl rfl (Nat.le_of_ble_eq_true rfl) ⟨Nat.zero_le _, Nat.zero_le _⟩ dX11_clause_46 rfl rfl ?_
      refine V_if_eq (tgt := 62) X dX11_clause_49 (by decide) h (fun h => ?_) (fun h => ?_)
      · refine V_aload_n X dX11_clause_62 2 rfl ?_
        refine V_get (ci := 10) (N := 4) (C := RX11) (T := TX11) (o := o) (j := 1) X rfl in_X11 (by decide) hK0 (by decide) q830 (fv_1 (i := (o + 1)) rfl rfl) dX11_clause_63 ?_
        obtain ⟨c66, hc66, h⟩ := bind_some_eq h
        refine V_callV (ci := 11) (N := 4) (T := TX12) (As := []) (rest := []) (s1 := []) (o := (o + 1)) X (con_xReader_skipsWord K hW N (o + 1) (hW.blk (by decide) hK0 1 (by decide) rfl) c16.2 c66 hc66) gwX11_skipsWord_99 hdV_X12_skipsWord ⟨Nat.le_of_ble_eq_true rfl, Nat.le_of_ble_eq_true rfl⟩ rfl (by decide) (hW.blk (by decide) hK0 1 (by decide) rfl) rfl rfl (Nat.le_of_ble_eq_true rfl) ⟨Nat.zero_le _, Nat.zero_le _⟩ dX11_clause_66 rfl rfl ?_
        refine V_aload_n X dX11_clause_69 2 rfl ?_
        refine V_dup X dX11_clause_70 rfl ?_
        refine V_get (ci := 10) (N := 4) (C := RX11) (T := TX11) (o := o) (j := 3) X rfl in_X11 (by decide) hK0 (by decide) q832 (fv_0 rfl) dX11_clause_71 ?_
        refine V_iconst X dX11_clause_74 ?_
        refine V_iadd X dX11_clause_75 ?_
        refine V_put (ty := .int) (ci := 10) (N := 4) (C := RX11) (T := TX11) (o := o) (j := 3) (a := ((gI c66 1003 o) + 1)) X rfl in_X11 tyX11 tyX11_ok nmX11 (by decide) hK0 (by decide) rfl pfd_I rfl rfl q832 (by rw [fv_0 rfl, gI_sI, if_pos ⟨rfl, rfl⟩]) dX11_clause_76 ?_
        refine V_iload_n X dX11_clause_79 0 rfl ?_
        by_cases hz0 : w32 c16.1 = 0
        · rw [if_pos hz0] at h
          refine V_tswIn (tgt := 140) 0 X dX11_clause_80 hz0 (by decide) (by decide) rfl (by decide) ?_
          refine V_aload_n X dX11_clause_140 2 rfl ?_
          refine V_get (ci := 10) (N := 4) (C := RX11) (T := TX11) (o := o) (j := 2) X rfl in_X11 (by decide) hK0 (by decide) q831 (fv_1 (i := (o + 3)) rfl rfl) dX11_clause_141 ?_
          refine V_getN (ci := 8) (N := 24) (C := RX9) (T := TX9) (o := (o + 3)) (j := 0) X rfl in_X9 (by decide) (hW.blk (by decide) hK0 3 (by decide) rfl) (by decide) q356 (fv_1 (i := ((o + 3) + 1)) rfl rfl) dX11_clause_144 ?_
          refine V_aload_n X dX11_clause_147 2 rfl ?_
          refine V_get (ci := 10) (N := 4) (C := RX11) (T := TX11) (o := o) (j := 2) X rfl in_X11 (by decide) hK0 (by decide) q831 (fv_1 (i := (o + 3)) rfl rfl) dX11_clause_148 ?_
          refine V_getN (ci := 8) (N := 24) (C := RX9) (T := TX9) (o := (o + 3)) (j := 13) X rfl in_X9 (by decide) (hW.blk (by decide) hK0 3 (by decide) rfl) (by decide) q395 (fv_0 rfl) dX11_clause_151 ?_
          refine V_aload_n X dX11_clause_154 2 rfl ?_
          refine V_get (ci := 10) (N := 4) (C := RX11) (T := TX11) (o := o) (j := 1) X rfl in_X11 (by decide) hK0 (by decide) q830 (fv_1 (i := (o + 1)) rfl rfl) dX11_clause_155 ?_
          refine V_iconst X dX11_clause_158 ?_
          refine V_bipush X dX11_clause_159 (by decide) ?_
          obtain ⟨c161, hc161, h⟩ := bind_some_eq h
          rcases c161 with x161 | y161
          · replace h := thT_l h
            have hr := Option.some.inj h
            subst hr
            exact V_callVT (ci := 11) (N := 4) (T := TX12) (As := [vI 1, vI 9]) (rest := [vI (gI (sI c66 1003 o ((gI c66 1003 o) + 1)) 813 (o + 3)), .ref (xb x + ((o + 3) + 1))]) (o := (o + 1)) hX (con_xReader_number K hW N (o + 1) (hW.blk (by decide) hK0 1 (by decide) rfl) sz hWS (sI c66 1003 o ((gI c66 1003 o) + 1)) 1 9 (.inl x161) hc161) gwX11_number_106 hdV_X12_number ⟨Nat.le_of_ble_eq_true rfl, Nat.le_of_ble_eq_true rfl⟩ rfl (by decide) (hW.blk (by decide) hK0 1 (by decide) rfl) rfl rfl (Nat.le_of_ble_eq_true rfl) dX11_clause_161 rfl
          replace h := thT_r h
          refine V_callV1 (ci := 11) (N := 4) (T := TX12) (As := [vI 1, vI 9]) (rest := [vI (gI (sI c66 1003 o ((gI c66 1003 o) + 1)) 813 (o + 3)), .ref (xb x + ((o + 3) + 1))]) (s1 := [vI y161.1, vI (gI (sI c66 1003 o ((gI c66 1003 o) + 1)) 813 (o + 3)), .ref (xb x + ((o + 3) + 1))]) (o := (o + 1)) X (con_xReader_number K hW N (o + 1) (hW.blk (by decide) hK0 1 (by decide) rfl) sz hWS (sI c66 1003 o ((gI c66 1003 o) + 1)) 1 9 (.inr y161) hc161) gwX11_number_106 hdV_X12_number ⟨Nat.le_of_ble_eq_true rfl, Nat.le_of_ble_eq_true rfl⟩ rfl (by decide) (hW.blk (by decide) hK0 1 (by decide) rfl) rfl rfl (Nat.le_of_ble_eq_true rfl) ⟨Nat.zero_le _, Nat.zero_le _⟩ dX11_clause_161 rfl rfl ?_
          refine V_iast X (o := ((o + 3) + 1)) (n := 4) (hW.blk (by decide) (hW.blk (by decide) hK0 3 (by decide) rfl) 1 (by decide) rfl) (by decide) dX11_clause_164 h (fun g164 h => ?_)
          refine V_aload_n X dX11_clause_165 2 rfl ?_
          refine V_get (ci := 10) (N := 4) (C := RX11) (T := TX11) (o := o) (j := 2) X rfl in_X11 (by decide) hK0 (by decide) q831 (fv_1 (i := (o + 3)) rfl rfl) dX11_clause_166 ?_
          refine V_dup X dX11_clause_169 rfl ?_
          refine V_getN (ci := 8) (N := 24) (C := RX9) (T := TX9) (o := (o + 3)) (j := 13) X rfl in_X9 (by decide) (hW.blk (by decide) hK0 3 (by decide) rfl) (by decide) q395 (fv_0 rfl) dX11_clause_170 ?_
          refine V_iconst X dX11_clause_173 ?_
          refine V_iadd X dX11_clause_174 ?_
          refine V_putN (ty := .int) (ci := 8) (N := 24) (C := RX9) (T := TX9) (o := (o + 3)) (j := 13) (a := ((gI g164 813 (o + 3)) + 1)) X rfl in_X9 tyX9 tyX9_ok nmX9 (by decide) (hW.blk (by decide) hK0 3 (by decide) rfl) (by decide) rfl pfd_I rfl rfl q395 (by rw [fv_0 rfl, gI_sI, if_pos ⟨rfl, rfl⟩]) dX11_clause_175 ?_
          refine V_goto (tgt := 478) X dX11_clause_178 (by decide) ?_
          exact V_sub [2] rfl (J478 _ h)
        · rw [if_neg hz0] at h
          by_cases hz1 : w32 c16.1 = 1
          · rw [if_pos hz1] at h
            refine V_tswIn (tgt := 181) 1 X dX11_clause_80 hz1 (by decide) (by decide) rfl (by decide) ?_
            refine V_aload_n X dX11_clause_181 2 rfl ?_
            refine V_aload_n X dX11_clause_182 2 rfl ?_
            refine V_get (ci := 10) (N := 4) (C := RX11) (T := TX11) (o := o) (j := 2) X rfl in_X11 (by decide) hK0 (by decide) q831 (fv_1 (i := (o + 3)) rfl rfl) dX11_clause_183 ?_
            refine V_getN (ci := 8) (N := 24) (C := RX9) (T := TX9) (o := (o + 3)) (j := 14) X rfl in_X9 (by decide) (hW.blk (by decide) hK0 3 (by decide) rfl) (by decide) q401 (fv_0 rfl) dX11_clause_186 ?_
            obtain ⟨c189, hc189, h⟩ := bind_some_eq h
            rcases c189 with x189 | y189
            · replace h := thT_l h
              have hr := Option.some.inj h
              subst hr
              exact V_callVT (ci := 10) (N := 4) (T := TX11) (As := [vI (gI (sI c66 1003 o ((gI c66 1003 o) + 1)) 814 (o + 3))]) (rest := []) (o := o) hX (con_xRoadReader_deed K hW N o hK0 sz hWS (sI c66 1003 o ((gI c66 1003 o) + 1)) (gI (sI c66 1003 o ((gI c66 1003 o) + 1)) 814 (o + 3)) (.inl x189) hc189) gwX11_deed_110 hdV_X11_deed ⟨Nat.le_of_ble_eq_true rfl, Nat.le_of_ble_eq_true rfl⟩ rfl (by decide) hK0 rfl rfl (Nat.le_of_ble_eq_true rfl) dX11_clause_189 rfl
            replace h := thT_r h
            refine V_callV1 (ci := 10) (N := 4) (T := TX11) (As := [vI (gI (sI c66 1003 o ((gI c66 1003 o) + 1)) 814 (o + 3))]) (rest := []) (s1 := []) (o := o) X (con_xRoadReader_deed K hW N o hK0 sz hWS (sI c66 1003 o ((gI c66 1003 o) + 1)) (gI (sI c66 1003 o ((gI c66 1003 o) + 1)) 814 (o + 3)) (.inr y189) hc189) gwX11_deed_110 hdV_X11_deed ⟨Nat.le_of_ble_eq_true rfl, Nat.le_of_ble_eq_true rfl⟩ rfl (by decide) hK0 rfl rfl (Nat.le_of_ble_eq_true rfl) ⟨Nat.zero_le _, Nat.zero_le _⟩ dX11_clause_189 rfl rfl ?_
            refine V_goto (tgt := 478) X dX11_clause_192 (by decide) ?_
            exact V_sub [2] rfl (J478 _ h)
          · rw [if_neg hz1] at h
            by_cases hz2 : w32 c16.1 = 2
            · rw [if_pos hz2] at h
              refine V_tswIn (tgt := 195) 2 X dX11_clause_80 hz2 (by decide) (by decide) rfl (by decide) ?_
              refine V_aload_n X dX11_clause_195 2 rfl ?_
              refine V_aload_n X dX11_clause_196 2 rfl ?_
              refine V_get (ci := 10) (N := 4) (C := RX11) (T := TX11) (o := o) (j := 2) X rfl in_X11 (by decide) hK0 (by decide) q831 (fv_1 (i := (o + 3)) rfl rfl) dX11_clause_197 ?_
              refine V_getN (ci := 8) (N := 24) (C := RX9) (T := TX9) (o := (o + 3)) (j := 15) X rfl in_X9 (by decide) (hW.blk (by decide) hK0 3 (by decide) rfl) (by decide) q406 (fv_0 rfl) dX11_clause_200 ?_
              obtain ⟨c203, hc203, h⟩ := bind_some_eq h
              rcases c203 with x203 | y203
              · replace h := thT_l h
                have hr := Option.some.inj h
                subst hr
                exact V_callVT (ci := 10) (N := 4) (T := TX11) (As := [vI (gI (sI c66 1003 o ((gI c66 1003 o) + 1)) 815 (o + 3))]) (rest := []) (o := o) hX (con_xRoadReader_rain K hW N o hK0 sz hWS (sI c66 1003 o ((gI c66 1003 o) + 1)) (gI (sI c66 1003 o ((gI c66 1003 o) + 1)) 815 (o + 3)) (.inl x203) hc203) gwX11_rain_113 hdV_X11_rain ⟨Nat.le_of_ble_eq_true rfl, Nat.le_of_ble_eq_true rfl⟩ rfl (by decide) hK0 rfl rfl (Nat.le_of_ble_eq_true rfl) dX11_clause_203 rfl
              replace h := thT_r h
              refine V_callV1 (ci := 10) (N := 4) (T := TX11) (As := [vI (gI (sI c66 1003 o ((gI c66 1003 o) + 1)) 815 (o + 3))]) (rest := []) (s1 := []) (o := o) X (con_xRoadReader_rain K hW N o hK0 sz hWS (sI c66 1003 o ((gI c66 1003 o) + 1)) (gI (sI c66 1003 o ((gI c66 1003 o) + 1)) 815 (o + 3)) (.inr y203) hc203) gwX11_rain_113 hdV_X11_rain ⟨Nat.le_of_ble_eq_true rfl, Nat.le_of_ble_eq_true rfl⟩ rfl (by decide) hK0 rfl rfl (Nat.le_of_ble_eq_true rfl) ⟨Nat.zero_le _, Nat.zero_le _⟩ dX11_clause_203 rfl rfl ?_
              refine V_goto (tgt := 478) X dX11_clause_206 (by decide) ?_
              exact V_sub [2] rfl (J478 _ h)
            · rw [if_neg hz2] at h
              by_cases hz3 : w32 c16.1 = 3
              · rw [if_pos hz3] at h
                refine V_tswIn (tgt := 209) 3 X dX11_clause_80 hz3 (by decide) (by decide) rfl (by decide) ?_
                refine V_aload_n X dX11_clause_209 2 rfl ?_
                refine V_get (ci := 10) (N := 4) (C := RX11) (T := TX11) (o := o) (j := 2) X rfl in_X11 (by decide) hK0 (by decide) q831 (fv_1 (i := (o + 3)) rfl rfl) dX11_clause_210 ?_
                refine V_getN (ci := 8) (N := 24) (C := RX9) (T := TX9) (o := (o + 3)) (j := 9) X rfl in_X9 (by decide) (hW.blk (by decide) hK0 3 (by decide) rfl) (by decide) q385 (fv_1 (i := ((o + 3) + 10)) rfl rfl) dX11_clause_213 ?_
                refine V_aload_n X dX11_clause_216 2 rfl ?_
                refine V_get (ci := 10) (N := 4) (C := RX11) (T := TX11) (o := o) (j := 2) X rfl in_X11 (by decide) hK0 (by decide) q831 (fv_1 (i := (o + 3)) rfl rfl) dX11_clause_217 ?_
                refine V_getN (ci := 8) (N := 24) (C := RX9) (T := TX9) (o := (o + 3)) (j := 16) X rfl in_X9 (by decide) (hW.blk (by decide) hK0 3 (by decide) rfl) (by decide) q407 (fv_0 rfl) dX11_clause_220 ?_
                refine V_aload_n X dX11_clause_223 2 rfl ?_
                refine V_get (ci := 10) (N := 4) (C := RX11) (T := TX11) (o := o) (j := 1) X rfl in_X11 (by decide) hK0 (by decide) q830 (fv_1 (i := (o + 1)) rfl rfl) dX11_clause_224 ?_
                refine V_iconst X dX11_clause_227 ?_
                refine V_bipush X dX11_clause_228 (by decide) ?_
                obtain ⟨c230, hc230, h⟩ := bind_some_eq h
                rcases c230 with x230 | y230
                · replace h := thT_l h
                  have hr := Option.some.inj h
                  subst hr
                  exact V_callVT (ci := 11) (N := 4) (T := TX12) (As := [vI 1, vI 9]) (rest := [vI (gI (sI c66 1003 o ((gI c66 1003 o) + 1)) 816 (o + 3)), .ref (xb x + ((o + 3) + 10))]) (o := (o + 1)) hX (con_xReader_number K hW N (o + 1) (hW.blk (by decide) hK0 1 (by decide) rfl) sz hWS (sI c66 1003 o ((gI c66 1003 o) + 1)) 1 9 (.inl x230) hc230) gwX11_number_106 hdV_X12_number ⟨Nat.le_of_ble_eq_true rfl, Nat.le_of_ble_eq_true rfl⟩ rfl (by decide) (hW.blk (by decide) hK0 1 (by decide) rfl) rfl rfl (Nat.le_of_ble_eq_true rfl) dX11_clause_230 rfl
                replace h := thT_r h
                refine V_callV1 (ci := 11) (N := 4) (T := TX12) (As := [vI 1, vI 9]) (rest := [vI (gI (sI c66 1003 o ((gI c66 1003 o) + 1)) 816 (o + 3)), .ref (xb x + ((o + 3) + 10))]) (s1 := [vI y230.1, vI (gI (sI c66 1003 o ((gI c66 1003 o) + 1)) 816 (o + 3)), .ref (xb x + ((o + 3) + 10))]) (o := (o + 1)) X (con_xReader_number K hW N (o + 1) (hW.blk (by decide) hK0 1 (by decide) rfl) sz hWS (sI c66 1003 o ((gI c66 1003 o) + 1)) 1 9 (.inr y230) hc230) gwX11_number_106 hdV_X12_number ⟨Nat.le_of_ble_eq_true rfl, Nat.le_of_ble_eq_true rfl⟩ rfl (by decide) (hW.blk (by decide) hK0 1 (by decide) rfl) rfl rfl (Nat.le_of_ble_eq_true rfl) ⟨Nat.zero_le _, Nat.zero_le _⟩ dX11_clause_230 rfl rfl ?_
                refine V_iast X (o := ((o + 3) + 10)) (n := 6) (hW.blk (by decide) (hW.blk (by decide) hK0 3 (by decide) rfl) 10 (by decide) rfl) (by decide) dX11_clause_233 h (fun g233 h => ?_)
                refine V_aload_n X dX11_clause_234 2 rfl ?_
                refine V_get (ci := 10) (N := 4) (C := RX11) (T := TX11) (o := o) (j := 2) X rfl in_X11 (by decide) hK0 (by decide) q831 (fv_1 (i := (o + 3)) rfl rfl) dX11_clause_235 ?_
                refine V_dup X dX11_clause_238 rfl ?_
                refine V_getN (ci := 8) (N := 24) (C := RX9) (T := TX9) (o := (o + 3)) (j := 16) X rfl in_X9 (by decide) (hW.blk (by decide) hK0 3 (by decide) rfl) (by decide) q407 (fv_0 rfl) dX11_clause_239 ?_
                refine V_iconst X dX11_clause_242 ?_
                refine V_iadd X dX11_clause_243 ?_
                refine V_putN (ty := .int) (ci := 8) (N := 24) (C := RX9) (T := TX9) (o := (o + 3)) (j := 16) (a := ((gI g233 816 (o + 3)) + 1)) X rfl in_X9 tyX9 tyX9_ok nmX9 (by decide) (hW.blk (by decide) hK0 3 (by decide) rfl) (by decide) rfl pfd_I rfl rfl q407 (by rw [fv_0 rfl, gI_sI, if_pos ⟨rfl, rfl⟩]) dX11_clause_244 ?_
                refine V_goto (tgt := 478) X dX11_clause_247 (by decide) ?_
                exact V_sub [2] rfl (J478 _ h)
              · rw [if_neg hz3] at h
                by_cases hz4 : w32 c16.1 = 4
                · rw [if_pos hz4] at h
                  refine V_tswIn (tgt := 250) 4 X dX11_clause_80 hz4 (by decide) (by decide) rfl (by decide) ?_
                  refine V_aload_n X dX11_clause_250 2 rfl ?_
                  refine V_get (ci := 10) (N := 4) (C := RX11) (T := TX11) (o := o) (j := 2) X rfl in_X11 (by decide) hK0 (by decide) q831 (fv_1 (i := (o + 3)) rfl rfl) dX11_clause_251 ?_
                  refine V_getN (ci := 8) (N := 24) (C := RX9) (T := TX9) (o := (o + 3)) (j := 10) X rfl in_X9 (by decide) (hW.blk (by decide) hK0 3 (by decide) rfl) (by decide) q387 (fv_1 (i := ((o + 3) + 11)) rfl rfl) dX11_clause_254 ?_
                  refine V_aload_n X dX11_clause_257 2 rfl ?_
                  refine V_get (ci := 10) (N := 4) (C := RX11) (T := TX11) (o := o) (j := 2) X rfl in_X11 (by decide) hK0 (by decide) q831 (fv_1 (i := (o + 3)) rfl rfl) dX11_clause_258 ?_
                  refine V_getN (ci := 8) (N := 24) (C := RX9) (T := TX9) (o := (o + 3)) (j := 17) X rfl in_X9 (by decide) (hW.blk (by decide) hK0 3 (by decide) rfl) (by decide) q410 (fv_0 rfl) dX11_clause_261 ?_
                  refine V_aload_n X dX11_clause_264 2 rfl ?_
                  refine V_get (ci := 10) (N := 4) (C := RX11) (T := TX11) (o := o) (j := 1) X rfl in_X11 (by decide) hK0 (by decide) q830 (fv_1 (i := (o + 1)) rfl rfl) dX11_clause_265 ?_
                  refine V_iconst X dX11_clause_268 ?_
                  refine V_bipush X dX11_clause_269 (by decide) ?_
                  obtain ⟨c271, hc271, h⟩ := bind_some_eq h
                  rcases c271 with x271 | y271
                  · replace h := thT_l h
                    have hr := Option.some.inj h
                    subst hr
                    exact V_callVT (ci := 11) (N := 4) (T := TX12) (As := [vI 0, vI 15]) (rest := [vI (gI (sI c66 1003 o ((gI c66 1003 o) + 1)) 817 (o + 3)), .ref (xb x + ((o + 3) + 11))]) (o := (o + 1)) hX (con_xReader_number K hW N (o + 1) (hW.blk (by decide) hK0 1 (by decide) rfl) sz hWS (sI c66 1003 o ((gI c66 1003 o) + 1)) 0 15 (.inl x271) hc271) gwX11_number_106 hdV_X12_number ⟨Nat.le_of_ble_eq_true rfl, Nat.le_of_ble_eq_true rfl⟩ rfl (by decide) (hW.blk (by decide) hK0 1 (by decide) rfl) rfl rfl (Nat.le_of_ble_eq_true rfl) dX11_clause_271 rfl
                  replace h := thT_r h
                  refine V_callV1 (ci := 11) (N := 4) (T := TX12) (As := [vI 0, vI 15]) (rest := [vI (gI (sI c66 1003 o ((gI c66 1003 o) + 1)) 817 (o + 3)), .ref (xb x + ((o + 3) + 11))]) (s1 := [vI y271.1, vI (gI (sI c66 1003 o ((gI c66 1003 o) + 1)) 817 (o + 3)), .ref (xb x + ((o + 3) + 11))]) (o := (o + 1)) X (con_xReader_number K hW N (o + 1) (hW.blk (by decide) hK0 1 (by decide) rfl) sz hWS (sI c66 1003 o ((gI c66 1003 o) + 1)) 0 15 (.inr y271) hc271) gwX11_number_106 hdV_X12_number ⟨Nat.le_of_ble_eq_true rfl, Nat.le_of_ble_eq_true rfl⟩ rfl (by decide) (hW.blk (by decide) hK0 1 (by decide) rfl) rfl rfl (Nat.le_of_ble_eq_true rfl) ⟨Nat.zero_le _, Nat.zero_le _⟩ dX11_clause_271 rfl rfl ?_
                  refine V_iast X (o := ((o + 3) + 11)) (n := 8) (hW.blk (by decide) (hW.blk (by decide) hK0 3 (by decide) rfl) 11 (by decide) rfl) (by decide) dX11_clause_274 h (fun g274 h => ?_)
                  refine V_aload_n X dX11_clause_275 2 rfl ?_
                  refine V_get (ci := 10) (N := 4) (C := RX11) (T := TX11) (o := o) (j := 2) X rfl in_X11 (by decide) hK0 (by decide) q831 (fv_1 (i := (o + 3)) rfl rfl) dX11_clause_276 ?_
                  refine V_dup X dX11_clause_279 rfl ?_
                  refine V_getN (ci := 8) (N := 24) (C := RX9) (T := TX9) (o := (o + 3)) (j := 17) X rfl in_X9 (by decide) (hW.blk (by decide) hK0 3 (by decide) rfl) (by decide) q410 (fv_0 rfl) dX11_clause_280 ?_
                  refine V_iconst X dX11_clause_283 ?_
                  refine V_iadd X dX11_clause_284 ?_
                  refine V_putN (ty := .int) (ci := 8) (N := 24) (C := RX9) (T := TX9) (o := (o + 3)) (j := 17) (a := ((gI g274 817 (o + 3)) + 1)) X rfl in_X9 tyX9 tyX9_ok nmX9 (by decide) (hW.blk (by decide) hK0 3 (by decide) rfl) (by decide) rfl pfd_I rfl rfl q410 (by rw [fv_0 rfl, gI_sI, if_pos ⟨rfl, rfl⟩]) dX11_clause_285 ?_
                  refine V_goto (tgt := 478) X dX11_clause_288 (by decide) ?_
                  exact V_sub [2] rfl (J478 _ h)
                · rw [if_neg hz4] at h
                  by_cases hz5 : w32 c16.1 = 5
                  · rw [if_pos hz5] at h
                    refine V_tswIn (tgt := 291) 5 X dX11_clause_80 hz5 (by decide) (by decide) rfl (by decide) ?_
                    refine V_aload_n X dX11_clause_291 2 rfl ?_
                    refine V_aload_n X dX11_clause_292 2 rfl ?_
                    refine V_get (ci := 10) (N := 4) (C := RX11) (T := TX11) (o := o) (j := 2) X rfl in_X11 (by decide) hK0 (by decide) q831 (fv_1 (i := (o + 3)) rfl rfl) dX11_clause_293 ?_
                    refine V_getN (ci := 8) (N := 24) (C := RX9) (T := TX9) (o := (o + 3)) (j := 18) X rfl in_X9 (by decide) (hW.blk (by decide) hK0 3 (by decide) rfl) (by decide) q412 (fv_0 rfl) dX11_clause_296 ?_
                    obtain ⟨c299, hc299, h⟩ := bind_some_eq h
                    rcases c299 with x299 | y299
                    · replace h := thT_l h
                      have hr := Option.some.inj h
                      subst hr
                      exact V_callVT (ci := 10) (N := 4) (T := TX11) (As := [vI (gI (sI c66 1003 o ((gI c66 1003 o) + 1)) 818 (o + 3))]) (rest := []) (o := o) hX (con_xRoadReader_cause K hW N o hK0 sz hWS (sI c66 1003 o ((gI c66 1003 o) + 1)) (gI (sI c66 1003 o ((gI c66 1003 o) + 1)) 818 (o + 3)) (.inl x299) hc299) gwX11_cause_121 hdV_X11_cause ⟨Nat.le_of_ble_eq_true rfl, Nat.le_of_ble_eq_true rfl⟩ rfl (by decide) hK0 rfl rfl (Nat.le_of_ble_eq_true rfl) dX11_clause_299 rfl
                    replace h := thT_r h
                    refine V_callV1 (ci := 10) (N := 4) (T := TX11) (As := [vI (gI (sI c66 1003 o ((gI c66 1003 o) + 1)) 818 (o + 3))]) (rest := []) (s1 := []) (o := o) X (con_xRoadReader_cause K hW N o hK0 sz hWS (sI c66 1003 o ((gI c66 1003 o) + 1)) (gI (sI c66 1003 o ((gI c66 1003 o) + 1)) 818 (o + 3)) (.inr y299) hc299) gwX11_cause_121 hdV_X11_cause ⟨Nat.le_of_ble_eq_true rfl, Nat.le_of_ble_eq_true rfl⟩ rfl (by decide) hK0 rfl rfl (Nat.le_of_ble_eq_true rfl) ⟨Nat.zero_le _, Nat.zero_le _⟩ dX11_clause_299 rfl rfl ?_
                    refine V_goto (tgt := 478) X dX11_clause_302 (by decide) ?_
                    exact V_sub [2] rfl (J478 _ h)
                  · rw [if_neg hz5] at h
                    by_cases hz6 : w32 c16.1 = 6
                    · rw [if_pos hz6] at h
                      refine V_tswIn (tgt := 305) 6 X dX11_clause_80 hz6 (by decide) (by decide) rfl (by decide) ?_
                      refine V_aload_n X dX11_clause_305 2 rfl ?_
                      refine V_get (ci := 10) (N := 4) (C := RX11) (T := TX11) (o := o) (j := 1) X rfl in_X11 (by decide) hK0 (by decide) q830 (fv_1 (i := (o + 1)) rfl rfl) dX11_clause_306 ?_
                      refine V_iconst X dX11_clause_309 ?_
                      refine V_aload_n X dX11_clause_310 2 rfl ?_
                      refine V_get (ci := 10) (N := 4) (C := RX11) (T := TX11) (o := o) (j := 2) X rfl in_X11 (by decide) hK0 (by decide) q831 (fv_1 (i := (o + 3)) rfl rfl) dX11_clause_311 ?_
                      refine V_getN (ci := 8) (N := 24) (C := RX9) (T := TX9) (o := (o + 3)) (j := 14) X rfl in_X9 (by decide) (hW.blk (by decide) hK0 3 (by decide) rfl) (by decide) q401 (fv_0 rfl) dX11_clause_314 ?_
                      refine V_iconst X dX11_clause_317 ?_
                      refine V_isub X dX11_clause_318 ?_
                      obtain ⟨c319, hc319, h⟩ := bind_some_eq h
                      rcases c319 with x319 | y319
                      · replace h := thT_l h
                        have hr := Option.some.inj h
                        subst hr
                        exact V_callVT (ci := 11) (N := 4) (T := TX12) (As := [vI 0, vI ((gI (sI c66 1003 o ((gI c66 1003 o) + 1)) 814 (o + 3)) - 1)]) (rest := []) (o := (o + 1)) hX (con_xReader_number K hW N (o + 1) (hW.blk (by decide) hK0 1 (by decide) rfl) sz hWS (sI c66 1003 o ((gI c66 1003 o) + 1)) 0 ((gI (sI c66 1003 o ((gI c66 1003 o) + 1)) 814 (o + 3)) - 1) (.inl x319) hc319) gwX11_number_106 hdV_X12_number ⟨Nat.le_of_ble_eq_true rfl, Nat.le_of_ble_eq_true rfl⟩ rfl (by decide) (hW.blk (by decide) hK0 1 (by decide) rfl) rfl rfl (Nat.le_of_ble_eq_true rfl) dX11_clause_319 rfl
                      replace h := thT_r h
                      refine V_callV1 (ci := 11) (N := 4) (T := TX12) (As := [vI 0, vI ((gI (sI c66 1003 o ((gI c66 1003 o) + 1)) 814 (o + 3)) - 1)]) (rest := []) (s1 := [vI y319.1]) (o := (o + 1)) X (con_xReader_number K hW N (o + 1) (hW.blk (by decide) hK0 1 (by decide) rfl) sz hWS (sI c66 1003 o ((gI c66 1003 o) + 1)) 0 ((gI (sI c66 1003 o ((gI c66 1003 o) + 1)) 814 (o + 3)) - 1) (.inr y319) hc319) gwX11_number_106 hdV_X12_number ⟨Nat.le_of_ble_eq_true rfl, Nat.le_of_ble_eq_true rfl⟩ rfl (by decide) (hW.blk (by decide) hK0 1 (by decide) rfl) rfl rfl (Nat.le_of_ble_eq_true rfl) ⟨Nat.zero_le _, Nat.zero_le _⟩ dX11_clause_319 rfl rfl ?_
                      refine V_istore_n X dX11_clause_322 (by decide) (L' := [(3, vI y319.1), (2, vI c16.1), (1, vI c4.1), (0, .ref (xb x + o))]) rfl ?_
                      refine V_aload_n X dX11_clause_323 3 rfl ?_
                      refine V_get (ci := 10) (N := 4) (C := RX11) (T := TX11) (o := o) (j := 2) X rfl in_X11 (by decide) hK0 (by decide) q831 (fv_1 (i := (o + 3)) rfl rfl) dX11_clause_324 ?_
                      refine V_getN (ci := 8) (N := 24) (C := RX9) (T := TX9) (o := (o + 3)) (j := 5) X rfl in_X9 (by decide) (hW.blk (by decide) hK0 3 (by decide) rfl) (by decide) q374 (fv_1 (i := ((o + 3) + 6)) rfl rfl) dX11_clause_327 ?_
                      refine V_iload_n X dX11_clause_330 0 rfl ?_
                      refine V_dup2 X dX11_clause_331 rfl rfl ?_
                      refine V_iald X (o := ((o + 3) + 6)) (n := 12) (hW.blk (by decide) (hW.blk (by decide) hK0 3 (by decide) rfl) 6 (by decide) rfl) (by decide) dX11_clause_332 h (fun v332 h => ?_)
                      refine V_iconst X dX11_clause_333 ?_
                      refine V_aload_n X dX11_clause_334 3 rfl ?_
                      refine V_get (ci := 10) (N := 4) (C := RX11) (T := TX11) (o := o) (j := 1) X rfl in_X11 (by decide) hK0 (by decide) q830 (fv_1 (i := (o + 1)) rfl rfl) dX11_clause_335 ?_
                      refine V_iconst X dX11_clause_338 ?_
                      refine V_iload_n X dX11_clause_339 0 rfl ?_
                      refine V_iconst X dX11_clause_340 ?_
                      refine V_isub X dX11_clause_341 ?_
                      obtain ⟨c342, hc342, h⟩ := bind_some_eq h
                      rcases c342 with x342 | y342
                      · replace h := thT_l h
                        have hr := Option.some.inj h
                        subst hr
                        exact V_callVT (ci := 11) (N := 4) (T := TX12) (As := [vI 0, vI (y319.1 - 1)]) (rest := [vI 1, vI v332, vI y319.1, .ref (xb x + ((o + 3) + 6))]) (o := (o + 1)) hX (con_xReader_number K hW N (o + 1) (hW.blk (by decide) hK0 1 (by decide) rfl) sz hWS y319.2 0 (y319.1 - 1) (.inl x342) hc342) gwX11_number_106 hdV_X12_number ⟨Nat.le_of_ble_eq_true rfl, Nat.le_of_ble_eq_true rfl⟩ rfl (by decide) (hW.blk (by decide) hK0 1 (by decide) rfl) rfl rfl (Nat.le_of_ble_eq_true rfl) dX11_clause_342 rfl
                      replace h := thT_r h
                      refine V_callV1 (ci := 11) (N := 4) (T := TX12) (As := [vI 0, vI (y319.1 - 1)]) (rest := [vI 1, vI v332, vI y319.1, .ref (xb x + ((o + 3) + 6))]) (s1 := [vI y342.1, vI 1, vI v332, vI y319.1, .ref (xb x + ((o + 3) + 6))]) (o := (o + 1)) X (con_xReader_number K hW N (o + 1) (hW.blk (by decide) hK0 1 (by decide) rfl) sz hWS y319.2 0 (y319.1 - 1) (.inr y342) hc342) gwX11_number_106 hdV_X12_number ⟨Nat.le_of_ble_eq_true rfl, Nat.le_of_ble_eq_true rfl⟩ rfl (by decide) (hW.blk (by decide) hK0 1 (by decide) rfl) rfl rfl (Nat.le_of_ble_eq_true rfl) ⟨Nat.zero_le _, Nat.zero_le _⟩ dX11_clause_342 rfl rfl ?_
                      refine V_ishl X dX11_clause_345 ?_
                      refine V_ior X dX11_clause_346 ?_
                      refine V_iast X (o := ((o + 3) + 6)) (n := 12) (hW.blk (by decide) (hW.blk (by decide) hK0 3 (by decide) rfl) 6 (by decide) rfl) (by decide) dX11_clause_347 h (fun g347 h => ?_)
                      refine V_goto (tgt := 478) X dX11_clause_348 (by decide) ?_
                      exact V_sub [3] rfl (J478 _ h)
                    · rw [if_neg hz6] at h
                      by_cases hz7 : w32 c16.1 = 7
                      · rw [if_pos hz7] at h
                        refine V_tswIn (tgt := 351) 7 X dX11_clause_80 hz7 (by decide) (by decide) rfl (by decide) ?_
                        refine V_aload_n X dX11_clause_351 2 rfl ?_
                        refine V_get (ci := 10) (N := 4) (C := RX11) (T := TX11) (o := o) (j := 1) X rfl in_X11 (by decide) hK0 (by decide) q830 (fv_1 (i := (o + 1)) rfl rfl) dX11_clause_352 ?_
                        refine V_iconst X dX11_clause_355 ?_
                        refine V_bipush X dX11_clause_356 (by decide) ?_
                        obtain ⟨c358, hc358, h⟩ := bind_some_eq h
                        rcases c358 with x358 | y358
                        · replace h := thT_l h
                          have hr := Option.some.inj h
                          subst hr
                          exact V_callVT (ci := 11) (N := 4) (T := TX12) (As := [vI 0, vI 59]) (rest := []) (o := (o + 1)) hX (con_xReader_number K hW N (o + 1) (hW.blk (by decide) hK0 1 (by decide) rfl) sz hWS (sI c66 1003 o ((gI c66 1003 o) + 1)) 0 59 (.inl x358) hc358) gwX11_number_106 hdV_X12_number ⟨Nat.le_of_ble_eq_true rfl, Nat.le_of_ble_eq_true rfl⟩ rfl (by decide) (hW.blk (by decide) hK0 1 (by decide) rfl) rfl rfl (Nat.le_of_ble_eq_true rfl) dX11_clause_358 rfl
                        replace h := thT_r h
                        refine V_callV1 (ci := 11) (N := 4) (T := TX12) (As := [vI 0, vI 59]) (rest := []) (s1 := [vI y358.1]) (o := (o + 1)) X (con_xReader_number K hW N (o + 1) (hW.blk (by decide) hK0 1 (by decide) rfl) sz hWS (sI c66 1003 o ((gI c66 1003 o) + 1)) 0 59 (.inr y358) hc358) gwX11_number_106 hdV_X12_number ⟨Nat.le_of_ble_eq_true rfl, Nat.le_of_ble_eq_true rfl⟩ rfl (by decide) (hW.blk (by decide) hK0 1 (by decide) rfl) rfl rfl (Nat.le_of_ble_eq_true rfl) ⟨Nat.zero_le _, Nat.zero_le _⟩ dX11_clause_358 rfl rfl ?_
                        refine V_istore_n X dX11_clause_361 (by decide) (L' := [(3, vI y358.1), (2, vI c16.1), (1, vI c4.1), (0, .ref (xb x + o))]) rfl ?_
                        refine V_aload_n X dX11_clause_362 3 rfl ?_
                        refine V_get (ci := 10) (N := 4) (C := RX11) (T := TX11) (o := o) (j := 2) X rfl in_X11 (by decide) hK0 (by decide) q831 (fv_1 (i := (o + 3)) rfl rfl) dX11_clause_363 ?_
                        refine V_getN (ci := 8) (N := 24) (C := RX9) (T := TX9) (o := (o + 3)) (j := 8) X rfl in_X9 (by decide) (hW.blk (by decide) hK0 3 (by decide) rfl) (by decide) q382 (fv_1 (i := ((o + 3) + 9)) rfl rfl) dX11_clause_366 ?_
                        refine V_iload_n X dX11_clause_369 0 rfl ?_
                        refine V_aload_n X dX11_clause_370 3 rfl ?_
                        refine V_get (ci := 10) (N := 4) (C := RX11) (T := TX11) (o := o) (j := 1) X rfl in_X11 (by decide) hK0 (by decide) q830 (fv_1 (i := (o + 1)) rfl rfl) dX11_clause_371 ?_
                        refine V_iconst X dX11_clause_374 ?_
                        refine V_bipush X dX11_clause_375 (by decide) ?_
                        obtain ⟨c377, hc377, h⟩ := bind_some_eq h
                        rcases c377 with x377 | y377
                        · replace h := thT_l h
                          have hr := Option.some.inj h
                          subst hr
                          exact V_callVT (ci := 11) (N := 4) (T := TX12) (As := [vI 0, vI 20]) (rest := [vI y358.1, .ref (xb x + ((o + 3) + 9))]) (o := (o + 1)) hX (con_xReader_number K hW N (o + 1) (hW.blk (by decide) hK0 1 (by decide) rfl) sz hWS y358.2 0 20 (.inl x377) hc377) gwX11_number_106 hdV_X12_number ⟨Nat.le_of_ble_eq_true rfl, Nat.le_of_ble_eq_true rfl⟩ rfl (by decide) (hW.blk (by decide) hK0 1 (by decide) rfl) rfl rfl (Nat.le_of_ble_eq_true rfl) dX11_clause_377 rfl
                        replace h := thT_r h
                        refine V_callV1 (ci := 11) (N := 4) (T := TX12) (As := [vI 0, vI 20]) (rest := [vI y358.1, .ref (xb x + ((o + 3) + 9))]) (s1 := [vI y377.1, vI y358.1, .ref (xb x + ((o + 3) + 9))]) (o := (o + 1)) X (con_xReader_number K hW N (o + 1) (hW.blk (by decide) hK0 1 (by decide) rfl) sz hWS y358.2 0 20 (.inr y377) hc377) gwX11_number_106 hdV_X12_number ⟨Nat.le_of_ble_eq_true rfl, Nat.le_of_ble_eq_true rfl⟩ rfl (by decide) (hW.blk (by decide) hK0 1 (by decide) rfl) rfl rfl (Nat.le_of_ble_eq_true rfl) ⟨Nat.zero_le _, Nat.zero_le _⟩ dX11_clause_377 rfl rfl ?_
                        refine V_iast X (o := ((o + 3) + 9)) (n := 60) (hW.blk (by decide) (hW.blk (by decide) hK0 3 (by decide) rfl) 9 (by decide) rfl) (by decide) dX11_clause_380 h (fun g380 h => ?_)
                        refine V_goto (tgt := 478) X dX11_clause_381 (by decide) ?_
                        exact V_sub [3] rfl (J478 _ h)
                      · rw [if_neg hz7] at h
                        by_cases hz8 : w32 c16.1 = 8
                        · rw [if_pos hz8] at h
                          refine V_tswIn (tgt := 384) 8 X dX11_clause_80 hz8 (by decide) (by decide) rfl (by decide) ?_
                          refine V_aload_n X dX11_clause_384 2 rfl ?_
                          refine V_get (ci := 10) (N := 4) (C := RX11) (T := TX11) (o := o) (j := 2) X rfl in_X11 (by decide) hK0 (by decide) q831 (fv_1 (i := (o + 3)) rfl rfl) dX11_clause_385 ?_
                          refine V_aload_n X dX11_clause_388 2 rfl ?_
                          refine V_get (ci := 10) (N := 4) (C := RX11) (T := TX11) (o := o) (j := 1) X rfl in_X11 (by decide) hK0 (by decide) q830 (fv_1 (i := (o + 1)) rfl rfl) dX11_clause_389 ?_
                          refine V_iconst X dX11_clause_392 ?_
                          refine V_bipush X dX11_clause_393 (by decide) ?_
                          obtain ⟨c395, hc395, h⟩ := bind_some_eq h
                          rcases c395 with x395 | y395
                          · replace h := thT_l h
                            have hr := Option.some.inj h
                            subst hr
                            exact V_callVT (ci := 11) (N := 4) (T := TX12) (As := [vI 1, vI 99]) (rest := [.ref (xb x + (o + 3))]) (o := (o + 1)) hX (con_xReader_number K hW N (o + 1) (hW.blk (by decide) hK0 1 (by decide) rfl) sz hWS (sI c66 1003 o ((gI c66 1003 o) + 1)) 1 99 (.inl x395) hc395) gwX11_number_106 hdV_X12_number ⟨Nat.le_of_ble_eq_true rfl, Nat.le_of_ble_eq_true rfl⟩ rfl (by decide) (hW.blk (by decide) hK0 1 (by decide) rfl) rfl rfl (Nat.le_of_ble_eq_true rfl) dX11_clause_395 rfl
                          replace h := thT_r h
                          refine V_callV1 (ci := 11) (N := 4) (T := TX12) (As := [vI 1, vI 99]) (rest := [.ref (xb x + (o + 3))]) (s1 := [vI y395.1, .ref (xb x + (o + 3))]) (o := (o + 1)) X (con_xReader_number K hW N (o + 1) (hW.blk (by decide) hK0 1 (by decide) rfl) sz hWS (sI c66 1003 o ((gI c66 1003 o) + 1)) 1 99 (.inr y395) hc395) gwX11_number_106 hdV_X12_number ⟨Nat.le_of_ble_eq_true rfl, Nat.le_of_ble_eq_true rfl⟩ rfl (by decide) (hW.blk (by decide) hK0 1 (by decide) rfl) rfl rfl (Nat.le_of_ble_eq_true rfl) ⟨Nat.zero_le _, Nat.zero_le _⟩ dX11_clause_395 rfl rfl ?_
                          refine V_putN (ty := .int) (ci := 8) (N := 24) (C := RX9) (T := TX9) (o := (o + 3)) (j := 19) (a := y395.1) X rfl in_X9 tyX9 tyX9_ok nmX9 (by decide) (hW.blk (by decide) hK0 3 (by decide) rfl) (by decide) rfl pfd_I rfl rfl q415 (by rw [fv_0 rfl, gI_sI, if_pos ⟨rfl, rfl⟩]) dX11_clause_398 ?_
                          refine V_goto (tgt := 478) X dX11_clause_401 (by decide) ?_
                          exact V_sub [2] rfl (J478 _ h)
                        · rw [if_neg hz8] at h
                          by_cases hz9 : w32 c16.1 = 9
                          · rw [if_pos hz9] at h
                            refine V_tswIn (tgt := 404) 9 X dX11_clause_80 hz9 (by decide) (by decide) rfl (by decide) ?_
                            refine V_aload_n X dX11_clause_404 2 rfl ?_
                            refine V_get (ci := 10) (N := 4) (C := RX11) (T := TX11) (o := o) (j := 2) X rfl in_X11 (by decide) hK0 (by decide) q831 (fv_1 (i := (o + 3)) rfl rfl) dX11_clause_405 ?_
                            refine V_aload_n X dX11_clause_408 2 rfl ?_
                            refine V_get (ci := 10) (N := 4) (C := RX11) (T := TX11) (o := o) (j := 1) X rfl in_X11 (by decide) hK0 (by decide) q830 (fv_1 (i := (o + 1)) rfl rfl) dX11_clause_409 ?_
                            refine V_iconst X dX11_clause_412 ?_
                            refine V_bipush X dX11_clause_413 (by decide) ?_
                            obtain ⟨c415, hc415, h⟩ := bind_some_eq h
                            rcases c415 with x415 | y415
                            · replace h := thT_l h
                              have hr := Option.some.inj h
                              subst hr
                              exact V_callVT (ci := 11) (N := 4) (T := TX12) (As := [vI 0, vI 16]) (rest := [.ref (xb x + (o + 3))]) (o := (o + 1)) hX (con_xReader_number K hW N (o + 1) (hW.blk (by decide) hK0 1 (by decide) rfl) sz hWS (sI c66 1003 o ((gI c66 1003 o) + 1)) 0 16 (.inl x415) hc415) gwX11_number_106 hdV_X12_number ⟨Nat.le_of_ble_eq_true rfl, Nat.le_of_ble_eq_true rfl⟩ rfl (by decide) (hW.blk (by decide) hK0 1 (by decide) rfl) rfl rfl (Nat.le_of_ble_eq_true rfl) dX11_clause_415 rfl
                            replace h := thT_r h
                            refine V_callV1 (ci := 11) (N := 4) (T := TX12) (As := [vI 0, vI 16]) (rest := [.ref (xb x + (o + 3))]) (s1 := [vI y415.1, .ref (xb x + (o + 3))]) (o := (o + 1)) X (con_xReader_number K hW N (o + 1) (hW.blk (by decide) hK0 1 (by decide) rfl) sz hWS (sI c66 1003 o ((gI c66 1003 o) + 1)) 0 16 (.inr y415) hc415) gwX11_number_106 hdV_X12_number ⟨Nat.le_of_ble_eq_true rfl, Nat.le_of_ble_eq_true rfl⟩ rfl (by decide) (hW.blk (by decide) hK0 1 (by decide) rfl) rfl rfl (Nat.le_of_ble_eq_true rfl) ⟨Nat.zero_le _, Nat.zero_le _⟩ dX11_clause_415 rfl rfl ?_
                            refine V_putN (ty := .int) (ci := 8) (N := 24) (C := RX9) (T := TX9) (o := (o + 3)) (j := 20) (a := y415.1) X rfl in_X9 tyX9 tyX9_ok nmX9 (by decide) (hW.blk (by decide) hK0 3 (by decide) rfl) (by decide) rfl pfd_I rfl rfl q418 (by rw [fv_0 rfl, gI_sI, if_pos ⟨rfl, rfl⟩]) dX11_clause_418 ?_
                            refine V_goto (tgt := 478) X dX11_clause_421 (by decide) ?_
                            exact V_sub [2] rfl (J478 _ h)
                          · rw [if_neg hz9] at h
                            by_cases hz10 : w32 c16.1 = 10
                            · rw [if_pos hz10] at h
                              refine V_tswIn (tgt := 424) 10 X dX11_clause_80 hz10 (by decide) (by decide) rfl (by decide) ?_
                              refine V_aload_n X dX11_clause_424 2 rfl ?_
                              refine V_get (ci := 10) (N := 4) (C := RX11) (T := TX11) (o := o) (j := 2) X rfl in_X11 (by decide) hK0 (by decide) q831 (fv_1 (i := (o + 3)) rfl rfl) dX11_clause_425 ?_
                              refine V_aload_n X dX11_clause_428 2 rfl ?_
                              refine V_get (ci := 10) (N := 4) (C := RX11) (T := TX11) (o := o) (j := 1) X rfl in_X11 (by decide) hK0 (by decide) q830 (fv_1 (i := (o + 1)) rfl rfl) dX11_clause_429 ?_
                              refine V_iconst X dX11_clause_432 ?_
                              refine V_bipush X dX11_clause_433 (by decide) ?_
                              obtain ⟨c435, hc435, h⟩ := bind_some_eq h
                              rcases c435 with x435 | y435
                              · replace h := thT_l h
                                have hr := Option.some.inj h
                                subst hr
                                exact V_callVT (ci := 11) (N := 4) (T := TX12) (As := [vI 0, vI 16]) (rest := [.ref (xb x + (o + 3))]) (o := (o + 1)) hX (con_xReader_number K hW N (o + 1) (hW.blk (by decide) hK0 1 (by decide) rfl) sz hWS (sI c66 1003 o ((gI c66 1003 o) + 1)) 0 16 (.inl x435) hc435) gwX11_number_106 hdV_X12_number ⟨Nat.le_of_ble_eq_true rfl, Nat.le_of_ble_eq_true rfl⟩ rfl (by decide) (hW.blk (by decide) hK0 1 (by decide) rfl) rfl rfl (Nat.le_of_ble_eq_true rfl) dX11_clause_435 rfl
                              replace h := thT_r h
                              refine V_callV1 (ci := 11) (N := 4) (T := TX12) (As := [vI 0, vI 16]) (rest := [.ref (xb x + (o + 3))]) (s1 := [vI y435.1, .ref (xb x + (o + 3))]) (o := (o + 1)) X (con_xReader_number K hW N (o + 1) (hW.blk (by decide) hK0 1 (by decide) rfl) sz hWS (sI c66 1003 o ((gI c66 1003 o) + 1)) 0 16 (.inr y435) hc435) gwX11_number_106 hdV_X12_number ⟨Nat.le_of_ble_eq_true rfl, Nat.le_of_ble_eq_true rfl⟩ rfl (by decide) (hW.blk (by decide) hK0 1 (by decide) rfl) rfl rfl (Nat.le_of_ble_eq_true rfl) ⟨Nat.zero_le _, Nat.zero_le _⟩ dX11_clause_435 rfl rfl ?_
                              refine V_putN (ty := .int) (ci := 8) (N := 24) (C := RX9) (T := TX9) (o := (o + 3)) (j := 21) (a := y435.1) X rfl in_X9 tyX9 tyX9_ok nmX9 (by decide) (hW.blk (by decide) hK0 3 (by decide) rfl) (by decide) rfl pfd_I rfl rfl q421 (by rw [fv_0 rfl, gI_sI, if_pos ⟨rfl, rfl⟩]) dX11_clause_438 ?_
                              refine V_goto (tgt := 478) X dX11_clause_441 (by decide) ?_
                              exact V_sub [2] rfl (J478 _ h)
                            · rw [if_neg hz10] at h
                              refine V_tswOut (tgt := 444) X dX11_clause_80 (by omega) (by decide) ?_
                              refine V_aload_n X dX11_clause_444 2 rfl ?_
                              refine V_get (ci := 10) (N := 4) (C := RX11) (T := TX11) (o := o) (j := 2) X rfl in_X11 (by decide) hK0 (by decide) q831 (fv_1 (i := (o + 3)) rfl rfl) dX11_clause_445 ?_
                              refine V_aload_n X dX11_clause_448 2 rfl ?_
                              refine V_get (ci := 10) (N := 4) (C := RX11) (T := TX11) (o := o) (j := 1) X rfl in_X11 (by decide) hK0 (by decide) q830 (fv_1 (i := (o + 1)) rfl rfl) dX11_clause_449 ?_
                              refine V_iconst X dX11_clause_452 ?_
                              refine V_bipush X dX11_clause_453 (by decide) ?_
                              obtain ⟨c455, hc455, h⟩ := bind_some_eq h
                              rcases c455 with x455 | y455
                              · replace h := thT_l h
                                have hr := Option.some.inj h
                                subst hr
                                exact V_callVT (ci := 11) (N := 4) (T := TX12) (As := [vI 0, vI 99]) (rest := [.ref (xb x + (o + 3))]) (o := (o + 1)) hX (con_xReader_number K hW N (o + 1) (hW.blk (by decide) hK0 1 (by decide) rfl) sz hWS (sI c66 1003 o ((gI c66 1003 o) + 1)) 0 99 (.inl x455) hc455) gwX11_number_106 hdV_X12_number ⟨Nat.le_of_ble_eq_true rfl, Nat.le_of_ble_eq_true rfl⟩ rfl (by decide) (hW.blk (by decide) hK0 1 (by decide) rfl) rfl rfl (Nat.le_of_ble_eq_true rfl) dX11_clause_455 rfl
                              replace h := thT_r h
                              refine V_callV1 (ci := 11) (N := 4) (T := TX12) (As := [vI 0, vI 99]) (rest := [.ref (xb x + (o + 3))]) (s1 := [vI y455.1, .ref (xb x + (o + 3))]) (o := (o + 1)) X (con_xReader_number K hW N (o + 1) (hW.blk (by decide) hK0 1 (by decide) rfl) sz hWS (sI c66 1003 o ((gI c66 1003 o) + 1)) 0 99 (.inr y455) hc455) gwX11_number_106 hdV_X12_number ⟨Nat.le_of_ble_eq_true rfl, Nat.le_of_ble_eq_true rfl⟩ rfl (by decide) (hW.blk (by decide) hK0 1 (by decide) rfl) rfl rfl (Nat.le_of_ble_eq_true rfl) ⟨Nat.zero_le _, Nat.zero_le _⟩ dX11_clause_455 rfl rfl ?_
                              refine V_putN (ty := .int) (ci := 8) (N := 24) (C := RX9) (T := TX9) (o := (o + 3)) (j := 22) (a := y455.1) X rfl in_X9 tyX9 tyX9_ok nmX9 (by decide) (hW.blk (by decide) hK0 3 (by decide) rfl) (by decide) rfl pfd_I rfl rfl q423 (by rw [fv_0 rfl, gI_sI, if_pos ⟨rfl, rfl⟩]) dX11_clause_458 ?_
                              refine V_aload_n X dX11_clause_461 2 rfl ?_
                              refine V_get (ci := 10) (N := 4) (C := RX11) (T := TX11) (o := o) (j := 2) X rfl in_X11 (by decide) hK0 (by decide) q831 (fv_1 (i := (o + 3)) rfl rfl) dX11_clause_462 ?_
                              refine V_aload_n X dX11_clause_465 2 rfl ?_
                              refine V_get (ci := 10) (N := 4) (C := RX11) (T := TX11) (o := o) (j := 1) X rfl in_X11 (by decide) hK0 (by decide) q830 (fv_1 (i := (o + 1)) rfl rfl) dX11_clause_466 ?_
                              refine V_iconst X dX11_clause_469 ?_
                              refine V_bipush X dX11_clause_470 (by decide) ?_
                              obtain ⟨c472, hc472, h⟩ := bind_some_eq h
                              rcases c472 with x472 | y472
                              · replace h := thT_l h
                                have hr := Option.some.inj h
                                subst hr
                                exact V_callVT (ci := 11) (N := 4) (T := TX12) (As := [vI 1, vI 9]) (rest := [.ref (xb x + (o + 3))]) (o := (o + 1)) hX (con_xReader_number K hW N (o + 1) (hW.blk (by decide) hK0 1 (by decide) rfl) sz hWS (sI y455.2 822 (o + 3) y455.1) 1 9 (.inl x472) hc472) gwX11_number_106 hdV_X12_number ⟨Nat.le_of_ble_eq_true rfl, Nat.le_of_ble_eq_true rfl⟩ rfl (by decide) (hW.blk (by decide) hK0 1 (by decide) rfl) rfl rfl (Nat.le_of_ble_eq_true rfl) dX11_clause_472 rfl
                              replace h := thT_r h
                              refine V_callV1 (ci := 11) (N := 4) (T := TX12) (As := [vI 1, vI 9]) (rest := [.ref (xb x + (o + 3))]) (s1 := [vI y472.1, .ref (xb x + (o + 3))]) (o := (o + 1)) X (con_xReader_number K hW N (o + 1) (hW.blk (by decide) hK0 1 (by decide) rfl) sz hWS (sI y455.2 822 (o + 3) y455.1) 1 9 (.inr y472) hc472) gwX11_number_106 hdV_X12_number ⟨Nat.le_of_ble_eq_true rfl, Nat.le_of_ble_eq_true rfl⟩ rfl (by decide) (hW.blk (by decide) hK0 1 (by decide) rfl) rfl rfl (Nat.le_of_ble_eq_true rfl) ⟨Nat.zero_le _, Nat.zero_le _⟩ dX11_clause_472 rfl rfl ?_
                              refine V_putN (ty := .int) (ci := 8) (N := 24) (C := RX9) (T := TX9) (o := (o + 3)) (j := 23) (a := y472.1) X rfl in_X9 tyX9 tyX9_ok nmX9 (by decide) (hW.blk (by decide) hK0 3 (by decide) rfl) (by decide) rfl pfd_I rfl rfl q426 (by rw [fv_0 rfl, gI_sI, if_pos ⟨rfl, rfl⟩]) dX11_clause_475 ?_
                              exact V_sub [2] rfl (J478 _ h)
      · exact V_sub [1] rfl (J52 _ _ h)
  · have hr := Option.some.inj h
    subst hr
    refine V_new (ci := 12) (N := 8) (C := RX13) (T := TX13) X rfl in_X13 tyX13 tyX13_ok (by decide) (by decide) q923 q924 q116 dfX13 (by rw [hX.2.2.1]; exact Or.inr (Nat.le_refl _)) ⟨Nat.le_of_ble_eq_true rfl, Nat.le_of_ble_eq_true rfl⟩ dX11_clause_25 ?_
    have hW := hWS.wk (kd := 13) rfl
    have hK0 := hWS.keep (kd := 13) hK0
    refine V_dup X dX11_clause_28 rfl ?_
    refine V_iconst X dX11_clause_29 ?_
    refine V_iload_n X dX11_clause_30 1 rfl ?_
    refine V_callI (As := [vI 1, vI c4.1]) (rest := [.ref (xb x + sz)]) (s1 := [.ref (xb x + sz)]) (o := sz) X ((con_Wrong (ku K sz 13) sz ku_self (newI 12 sz c16.2) 1 c4.1).at1 (sz + 1)) q932 q933 q116 q934 hdI_Wrong ⟨Nat.le_of_ble_eq_true rfl, Nat.le_of_ble_eq_true rfl⟩ rfl rfl (Nat.le_of_ble_eq_true rfl) ⟨Nat.le_of_ble_eq_true rfl, Nat.le_of_ble_eq_true rfl⟩ dX11_clause_31 rfl rfl ?_
    exact V_throwO hX ⟨Nat.le_of_ble_eq_true rfl, Nat.le_of_ble_eq_true rfl⟩ dX11_clause_34
set_option maxHeartbeats 4000000 in
theorem con_xRoadReader_reads (K : Nat → Nat) (hW : WFK K) (N : Nat) (o : Nat) (hK0 : K o = 11) (sz : Nat) (hWS : WFS K sz) (g : GS) (r : ((Nat × GS) ⊕ GS)) (h : xRoadReader_reads N K o sz g = some r) : ConX sz yX11_reads cX11_reads 1 (some (.object "RainWheel$Road")) 10 239 K (fun b => [.ref (b + o)]) g (fun r => ((fun b => some (.ref (b + (o + 3)))), r)) r := by
  refine ConX.of RX11 (by decide) rfl (fun b => Nat.le_of_ble_eq_true rfl) (fun x hX => ?_)
  have X := hX.ok
  have LL0 : ∀  (n : Nat) (s : (GS)) (e : ((Nat × GS) ⊕ GS)), loopN (fun s => xRoadReader_reads_b0 N K o sz s) n s = some e → (e = r) → V x 1 K 0 0 sz s 0 [(0, .ref (xb x + o))] [] := by
    intro  n s e
    refine loop_walk (P := fun s => V x 1 K 0 0 sz s 0 [(0, .ref (xb x + o))] []) (E := fun e => e = r) ?_ n s e
    clear e s n
    rintro g q0 h hc0 he0
    replace h : xRoadReader_reads_b0 N K o sz g = some q0 := h
    unfold xRoadReader_reads_b0 at h
    show V x 1 K 0 0 sz g 0 [(0, .ref (xb x + o))] []
    refine V_aload_n X dX11_reads_0 0 rfl ?_
    refine V_get (ci := 10) (N := 4) (C := RX11) (T := TX11) (o := o) (j := 1) X rfl in_X11 (by decide) hK0 (by decide) q830 (fv_1 (i := (o + 1)) rfl rfl) dX11_reads_1 ?_
    obtain ⟨c4, hc4, h⟩ := bind_some_eq h
    refine V_callV (ci := 11) (N := 4) (T := TX12) (As := []) (rest := []) (s1 := [vI c4.1]) (o := (o + 1)) X (con_xReader_now K hW N (o + 1) (hW.blk (by decide) hK0 1 (by decide) rfl) g c4 hc4) gwX11_now_52 hdV_X12_now ⟨Nat.le_of_ble_eq_true rfl, Nat.le_of_ble_eq_true rfl⟩ rfl (by decide) (hW.blk (by decide) hK0 1 (by decide) rfl) rfl rfl (Nat.le_of_ble_eq_true rfl) ⟨Nat.zero_le _, Nat.zero_le _⟩ dX11_reads_4 rfl rfl ?_
    refine V_iconst X dX11_reads_7 ?_
    refine V_icmp_eq (tgt := 18) X dX11_reads_8 (by decide) h (fun h => ?_) (fun h => ?_)
    · obtain ⟨e1, h, e1q⟩ := outR_some h
      replace h := h.trans (congrArg some (he0 _ e1q))
      refine V_aload_n X dX11_reads_18 0 rfl ?_
      refine V_get (ci := 10) (N := 4) (C := RX11) (T := TX11) (o := o) (j := 2) X rfl in_X11 (by decide) hK0 (by decide) q831 (fv_1 (i := (o + 3)) rfl rfl) dX11_reads_19 ?_
      have hr := Option.some.inj h
      subst hr
      exact V_end_a hX rfl dX11_reads_22
    · refine V_aload_n X dX11_reads_11 0 rfl ?_
      obtain ⟨c12, hc12, h⟩ := bind_some_eq h
      rcases c12 with x12 | y12
      · replace h := thT_l h
        obtain ⟨e2, h, e2q⟩ := outR_some h
        replace h := h.trans (congrArg some (he0 _ e2q))
        have hr := Option.some.inj h
        subst hr
        exact V_callVT (ci := 10) (N := 4) (T := TX11) (As := []) (rest := []) (o := o) hX (con_xRoadReader_clause K hW N o hK0 sz hWS c4.2 (.inl x12) hc12) gwX11_clause_58 hdV_X11_clause ⟨Nat.le_of_ble_eq_true rfl, Nat.le_of_ble_eq_true rfl⟩ rfl (by decide) hK0 rfl rfl (Nat.le_of_ble_eq_true rfl) dX11_reads_12 rfl
      replace h := thT_r h
      refine V_callV1 (ci := 10) (N := 4) (T := TX11) (As := []) (rest := []) (s1 := []) (o := o) X (con_xRoadReader_clause K hW N o hK0 sz hWS c4.2 (.inr y12) hc12) gwX11_clause_58 hdV_X11_clause ⟨Nat.le_of_ble_eq_true rfl, Nat.le_of_ble_eq_true rfl⟩ rfl (by decide) hK0 rfl rfl (Nat.le_of_ble_eq_true rfl) ⟨Nat.zero_le _, Nat.zero_le _⟩ dX11_reads_12 rfl rfl ?_
      refine V_goto (tgt := 0) X dX11_reads_15 (by decide) ?_
      exact V_sub [0] rfl (hc0 _ (Option.some.inj h).symm)
  unfold xRoadReader_reads at h
  show V x 1 K 0 0 sz g 0 [(0, .ref (xb x + o))] []
  exact V_sub [0] rfl (LL0 N g _ h rfl)
