set_option maxRecDepth 100000
set_option maxHeartbeats 4000000 in
theorem con_m_thrown (g : GS) (r : Int) (h : m_thrown g = some r) : Con yX10_thrown cX10_thrown 1 (some .int) 1 12 Km (fun b => [.ref (b + 0)]) g (fun _ => some (vI r)) g := by
  refine Con.of RX10 (by decide) rfl (fun b => Nat.le_of_ble_eq_true rfl) (fun x sz hX => ?_)
  have X := hX.1
  unfold m_thrown at h
  show V x 1 Km 0 0 sz g 0 [(0, .ref (xb x + 0))] []
  refine V_aload_n X dX10_thrown_0 0 rfl ?_
  refine getX10 X (o := 0) (j := 0) rfl (by decide) q1548 (fv_0 rfl) dX10_thrown_1 ?_
  have hr := Option.some.inj h
  subst hr
  exact V_end_i hX rfl dX10_thrown_4
set_option maxHeartbeats 4000000 in
theorem con_m_may (g : GS) (l1 : Int) (l2 : Int) (l3 : Int) (r : (Int × GS)) (h : m_may g l1 l2 l3 = some r) : Con yX10_may cX10_may 4 (some .boolean) 1 12 Km (fun b => [.ref (b + 0), vI l1, vI l2, vI l3]) g (fun _ => some (vI r.1)) r.2 := by
  refine Con.of RX10 (by decide) rfl (fun b => Nat.le_of_ble_eq_true rfl) (fun x sz hX => ?_)
  have X := hX.1
  have J26 : ∀ (g : GS), m_may_j26 g = some r → V x 4 Km 0 0 sz g 26 [(0, .ref (xb x + 0))] [] := by
    intro g h
    unfold m_may_j26 at h
    refine V_aload_n X dX10_may_26 0 rfl ?_
    refine getX10 X (o := 0) (j := 0) rfl (by decide) q1548 (fv_0 rfl) dX10_may_27 ?_
    refine V_if_ne (tgt := 37) X dX10_may_30 (by decide) h (fun h => ?_) (fun h => ?_)
    · refine V_iconst X dX10_may_37 ?_
      have hr := Option.some.inj h
      subst hr
      exact V_end_z hX (Or.inl rfl) rfl dX10_may_38
    · refine V_iconst X dX10_may_33 ?_
      refine V_goto (tgt := 38) X dX10_may_34 (by decide) ?_
      have hr := Option.some.inj h
      subst hr
      exact V_end_z hX (Or.inr rfl) rfl dX10_may_38
  unfold m_may at h
  show V x 4 Km 0 0 sz g 0 [(0, .ref (xb x + 0)), (1, vI l1), (2, vI l2), (3, vI l3)] []
  refine V_iload_n X dX10_may_0 1 rfl ?_
  refine V_if_ne (tgt := 26) X dX10_may_1 (by decide) h (fun h => ?_) (fun h => ?_)
  · exact V_sub [0] rfl (J26 _ h)
  · refine V_aload_n X dX10_may_4 0 rfl ?_
    refine getX10 X (o := 0) (j := 0) rfl (by decide) q1548 (fv_0 rfl) dX10_may_5 ?_
    refine V_if_ne (tgt := 26) X dX10_may_8 (by decide) h (fun h => ?_) (fun h => ?_)
    · exact V_sub [0] rfl (J26 _ h)
    · refine V_aload_n X dX10_may_11 0 rfl ?_
      refine V_iload_n X dX10_may_12 2 rfl ?_
      refine putX10 X (o := 0) (j := 0) (a := l2) rfl (by decide) rfl rfl rfl q1548 dX10_may_13 ?_
      refine V_aload_n X dX10_may_16 0 rfl ?_
      refine getX10 X (o := 0) (j := 1) rfl (by decide) q1549 (fv_1 (i := 1) rfl rfl) dX10_may_17 ?_
      refine V_iload_n X dX10_may_20 3 rfl ?_
      refine V_dup2 X dX10_may_21 rfl rfl ?_
      refine V_iald X (o := 1) (n := 3) rfl (by decide) dX10_may_22 h (fun v22 h => ?_)
      refine V_iconst X dX10_may_23 ?_
      refine V_iadd X dX10_may_24 ?_
      refine V_iast X (o := 1) (n := 3) rfl (by decide) dX10_may_25 h (fun g25 h => ?_)
      exact V_sub [0] rfl (J26 _ h)
set_option maxHeartbeats 4000000 in
theorem con_m_within (g : GS) (l0 : Int) (l1 : Int) (l2 : Int) (r : Int) (h : m_within l0 l1 l2 = some r) : Con yX10_within cX10_within 3 (some .boolean) 1 12 Km (fun b => [vI l0, vI l1, vI l2]) g (fun _ => some (vI r)) g := by
  refine Con.of RX10 (by decide) rfl (fun b => Nat.le_of_ble_eq_true rfl) (fun x sz hX => ?_)
  have X := hX.1
  unfold m_within at h
  show V x 3 Km 0 0 sz g 0 [(0, vI l0), (1, vI l1), (2, vI l2)] []
  refine V_iload_n X dX10_within_0 0 rfl ?_
  refine V_iload_n X dX10_within_1 1 rfl ?_
  refine V_icmp_lt (tgt := 14) X dX10_within_2 (by decide) h (fun h => ?_) (fun h => ?_)
  · refine V_iconst X dX10_within_14 ?_
    have hr := Option.some.inj h
    subst hr
    exact V_end_z hX (Or.inl rfl) rfl dX10_within_15
  · refine V_iload_n X dX10_within_5 0 rfl ?_
    refine V_iload_n X dX10_within_6 2 rfl ?_
    refine V_icmp_gt (tgt := 14) X dX10_within_7 (by decide) h (fun h => ?_) (fun h => ?_)
    · refine V_iconst X dX10_within_14 ?_
      have hr := Option.some.inj h
      subst hr
      exact V_end_z hX (Or.inl rfl) rfl dX10_within_15
    · refine V_iconst X dX10_within_10 ?_
      refine V_goto (tgt := 15) X dX10_within_11 (by decide) ?_
      have hr := Option.some.inj h
      subst hr
      exact V_end_z hX (Or.inr rfl) rfl dX10_within_15
set_option maxHeartbeats 4000000 in
theorem con_m_clears (N : Nat) (g : GS) (r : GS) (h : m_clears N g = some r) : Con yX10_clears cX10_clears 2 none 1 12 Km (fun b => [.ref (b + 0)]) g (fun _ => none) r := by
  refine Con.of RX10 (by decide) rfl (fun b => Nat.le_of_ble_eq_true rfl) (fun x sz hX => ?_)
  have X := hX.1
  have LL53 : ∀  (n : Nat) (s : (GS × Int)) (e : (GS)), loopN (fun s => m_clears_b53 N s.1 s.2) n s = some e → V x 2 Km 0 0 sz e 73 [(0, .ref (xb x + 0))] [] → V x 2 Km 0 0 sz s.1 53 [(0, .ref (xb x + 0)), (1, vI s.2)] [] := by
    intro  n s e
    refine loop_walk (P := fun s => V x 2 Km 0 0 sz s.1 53 [(0, .ref (xb x + 0)), (1, vI s.2)] []) (E := fun e => V x 2 Km 0 0 sz e 73 [(0, .ref (xb x + 0))] []) ?_ n s e
    clear e s n
    rintro ⟨g, l1⟩ q53 h hc53 he53
    replace h : m_clears_b53 N g l1 = some q53 := h
    unfold m_clears_b53 at h
    show V x 2 Km 0 0 sz g 53 [(0, .ref (xb x + 0)), (1, vI l1)] []
    refine V_iload_n X dX10_clears_53 1 rfl ?_
    refine V_sipush X dX10_clears_54 (by decide) ?_
    refine V_icmp_ge (tgt := 73) X dX10_clears_57 (by decide) h (fun h => ?_) (fun h => ?_)
    · exact V_sub [0] rfl (he53 _ (Option.some.inj h).symm)
    · refine V_aload_n X dX10_clears_60 0 rfl ?_
      refine getX10 X (o := 0) (j := 22) rfl (by decide) q1570 (fv_1 (i := 15) rfl rfl) dX10_clears_61 ?_
      refine V_iload_n X dX10_clears_64 1 rfl ?_
      refine V_iconst X dX10_clears_65 ?_
      refine V_zast X (o := 15) (n := 241) rfl (by decide) dX10_clears_66 h (fun g66 h => ?_)
      refine V_iinc X dX10_clears_67 1 rfl (by decide) (L' := [(1, vI (l1 + 1)), (0, .ref (xb x + 0))]) rfl ?_
      refine V_goto (tgt := 53) X dX10_clears_70 (by decide) ?_
      exact V_sub [1, 0] rfl (hc53 _ (Option.some.inj h).symm)
  have LL32 : ∀  (n : Nat) (s : (GS × Int)) (e : (GS)), loopN (fun s => m_clears_b32 N s.1 s.2) n s = some e → V x 2 Km 0 0 sz e 51 [(0, .ref (xb x + 0))] [] → V x 2 Km 0 0 sz s.1 32 [(0, .ref (xb x + 0)), (1, vI s.2)] [] := by
    intro  n s e
    refine loop_walk (P := fun s => V x 2 Km 0 0 sz s.1 32 [(0, .ref (xb x + 0)), (1, vI s.2)] []) (E := fun e => V x 2 Km 0 0 sz e 51 [(0, .ref (xb x + 0))] []) ?_ n s e
    clear e s n
    rintro ⟨g, l1⟩ q32 h hc32 he32
    replace h : m_clears_b32 N g l1 = some q32 := h
    unfold m_clears_b32 at h
    show V x 2 Km 0 0 sz g 32 [(0, .ref (xb x + 0)), (1, vI l1)] []
    refine V_iload_n X dX10_clears_32 1 rfl ?_
    refine V_bipush X dX10_clears_33 (by decide) ?_
    refine V_icmp_ge (tgt := 51) X dX10_clears_35 (by decide) h (fun h => ?_) (fun h => ?_)
    · exact V_sub [0] rfl (he32 _ (Option.some.inj h).symm)
    · refine V_aload_n X dX10_clears_38 0 rfl ?_
      refine getX10 X (o := 0) (j := 12) rfl (by decide) q1560 (fv_1 (i := 5) rfl rfl) dX10_clears_39 ?_
      refine V_iload_n X dX10_clears_42 1 rfl ?_
      refine V_iconst X dX10_clears_43 ?_
      refine V_iast X (o := 5) (n := 60) rfl (by decide) dX10_clears_44 h (fun g44 h => ?_)
      refine V_iinc X dX10_clears_45 1 rfl (by decide) (L' := [(1, vI (l1 + 1)), (0, .ref (xb x + 0))]) rfl ?_
      refine V_goto (tgt := 32) X dX10_clears_48 (by decide) ?_
      exact V_sub [1, 0] rfl (hc32 _ (Option.some.inj h).symm)
  unfold m_clears at h
  show V x 2 Km 0 0 sz g 0 [(0, .ref (xb x + 0))] []
  refine V_aload_n X dX10_clears_0 0 rfl ?_
  refine V_iconst X dX10_clears_1 ?_
  refine putX10 X (o := 0) (j := 26) (a := 0) rfl (by decide) rfl rfl rfl q1574 dX10_clears_2 ?_
  refine V_aload_n X dX10_clears_5 0 rfl ?_
  refine V_iconst X dX10_clears_6 ?_
  refine putX10 X (o := 0) (j := 27) (a := 0) rfl (by decide) rfl rfl rfl q1575 dX10_clears_7 ?_
  refine V_aload_n X dX10_clears_10 0 rfl ?_
  refine V_iconst X dX10_clears_11 ?_
  refine putX10 X (o := 0) (j := 28) (a := 0) rfl (by decide) rfl rfl rfl q1576 dX10_clears_12 ?_
  refine V_aload_n X dX10_clears_15 0 rfl ?_
  refine V_iconst X dX10_clears_16 ?_
  refine putX10 X (o := 0) (j := 29) (a := 0) rfl (by decide) rfl rfl rfl q1577 dX10_clears_17 ?_
  refine V_aload_n X dX10_clears_20 0 rfl ?_
  refine V_iconst X dX10_clears_21 ?_
  refine putX10 X (o := 0) (j := 30) (a := 0) rfl (by decide) rfl rfl rfl q1578 dX10_clears_22 ?_
  refine V_aload_n X dX10_clears_25 0 rfl ?_
  refine V_iconst X dX10_clears_26 ?_
  refine putX10 X (o := 0) (j := 31) (a := 0) rfl (by decide) rfl rfl rfl q1579 dX10_clears_27 ?_
  refine V_iconst X dX10_clears_30 ?_
  refine V_istore_n X dX10_clears_31 (by decide) (L' := [(1, vI 0), (0, .ref (xb x + 0))]) rfl ?_
  obtain ⟨t1, t1q, h⟩ := bind_some_eq h
  refine V_sub [1, 0] rfl (LL32 N ((sI (sI (sI (sI (sI (sI g 926 0 0) 927 0 0) 928 0 0) 929 0 0) 930 0 0) 931 0 0), 0) _ t1q ?_)
  refine V_iconst X dX10_clears_51 ?_
  refine V_istore_n X dX10_clears_52 (by decide) (L' := [(1, vI 0), (0, .ref (xb x + 0))]) rfl ?_
  obtain ⟨t2, t2q, h⟩ := bind_some_eq h
  refine V_sub [1, 0] rfl (LL53 N (t1, 0) _ t2q ?_)
  refine V_aload_n X dX10_clears_73 0 rfl ?_
  refine getX10 X (o := 0) (j := 24) rfl (by decide) q1572 (fv_1 (i := 17) rfl rfl) dX10_clears_74 ?_
  refine V_iconst X dX10_clears_77 ?_
  refine V_bipush X dX10_clears_78 (by decide) ?_
  refine V_iast X (o := 17) (n := 5) rfl (by decide) dX10_clears_80 h (fun g80 h => ?_)
  refine V_aload_n X dX10_clears_81 0 rfl ?_
  refine getX10 X (o := 0) (j := 24) rfl (by decide) q1572 (fv_1 (i := 17) rfl rfl) dX10_clears_82 ?_
  refine V_iconst X dX10_clears_85 ?_
  refine V_iconst X dX10_clears_86 ?_
  refine V_iast X (o := 17) (n := 5) rfl (by decide) dX10_clears_87 h (fun g87 h => ?_)
  refine V_aload_n X dX10_clears_88 0 rfl ?_
  refine getX10 X (o := 0) (j := 24) rfl (by decide) q1572 (fv_1 (i := 17) rfl rfl) dX10_clears_89 ?_
  refine V_iconst X dX10_clears_92 ?_
  refine V_iconst X dX10_clears_93 ?_
  refine V_iast X (o := 17) (n := 5) rfl (by decide) dX10_clears_94 h (fun g94 h => ?_)
  refine V_aload_n X dX10_clears_95 0 rfl ?_
  refine getX10 X (o := 0) (j := 24) rfl (by decide) q1572 (fv_1 (i := 17) rfl rfl) dX10_clears_96 ?_
  refine V_iconst X dX10_clears_99 ?_
  refine V_bipush X dX10_clears_100 (by decide) ?_
  refine V_iast X (o := 17) (n := 5) rfl (by decide) dX10_clears_102 h (fun g102 h => ?_)
  refine V_aload_n X dX10_clears_103 0 rfl ?_
  refine getX10 X (o := 0) (j := 24) rfl (by decide) q1572 (fv_1 (i := 17) rfl rfl) dX10_clears_104 ?_
  refine V_iconst X dX10_clears_107 ?_
  refine V_iconst X dX10_clears_108 ?_
  refine V_iast X (o := 17) (n := 5) rfl (by decide) dX10_clears_109 h (fun g109 h => ?_)
  have hr := Option.some.inj h
  subst hr
  exact V_end_v hX rfl dX10_clears_110
set_option maxHeartbeats 4000000 in
theorem con_m_copies (N : Nat) (l1 : Nat) (n1 : Nat) (l2 : Nat) (n2 : Nat) (hK1 : Km l1 = 10000 + n1 ∧ n1 < 10000) (hK2 : Km l2 = 10000 + n2 ∧ n2 < 10000) (g : GS) (l3 : Int) (r : GS) (h : m_copies N l1 n1 l2 n2 g l3 = some r) : Con yX10_copies cX10_copies 5 none 1 12 Km (fun b => [.ref (b + 0), .ref (b + l1), .ref (b + l2), vI l3]) g (fun _ => none) r := by
  refine Con.of RX10 (by decide) rfl (fun b => Nat.le_of_ble_eq_true rfl) (fun x sz hX => ?_)
  have X := hX.1
  have LL3 : ∀ (l3 : Int) (n : Nat) (s : (GS × Int)) (e : GS), loopN (fun s => m_copies_b3 N l1 n1 l2 n2 l3 s.1 s.2) n s = some e → (e = r) → V x 5 Km 0 0 sz s.1 3 [(1, .ref (xb x + l1)), (2, .ref (xb x + l2)), (3, vI l3), (4, vI s.2)] [] := by
    intro l3 n s e
    refine loop_walk (P := fun s => V x 5 Km 0 0 sz s.1 3 [(1, .ref (xb x + l1)), (2, .ref (xb x + l2)), (3, vI l3), (4, vI s.2)] []) (E := fun e => e = r) ?_ n s e
    clear e s n
    rintro ⟨g, l4⟩ q3 h hc3 he3
    replace h : m_copies_b3 N l1 n1 l2 n2 l3 g l4 = some q3 := h
    unfold m_copies_b3 at h
    show V x 5 Km 0 0 sz g 3 [(1, .ref (xb x + l1)), (2, .ref (xb x + l2)), (3, vI l3), (4, vI l4)] []
    refine V_iload X dX10_copies_3 3 rfl ?_
    refine V_iload_n X dX10_copies_5 2 rfl ?_
    refine V_icmp_ge (tgt := 23) X dX10_copies_6 (by decide) h (fun h => ?_) (fun h => ?_)
    · obtain ⟨e1, h, e1q⟩ := outR_some h
      replace h := h.trans (congrArg some (he3 _ e1q))
      have hr := Option.some.inj h
      subst hr
      exact V_end_v hX rfl dX10_copies_23
    · refine V_aload_n X dX10_copies_9 1 rfl ?_
      refine V_iload X dX10_copies_10 3 rfl ?_
      refine V_aload_n X dX10_copies_12 0 rfl ?_
      refine V_iload X dX10_copies_13 3 rfl ?_
      refine V_iald X (o := l1) (n := n1) hK1.1 hK1.2 dX10_copies_15 h (fun v15 h => ?_)
      refine V_iast X (o := l2) (n := n2) hK2.1 hK2.2 dX10_copies_16 h (fun g16 h => ?_)
      refine V_iinc X dX10_copies_17 3 rfl (by decide) (L' := [(4, vI (l4 + 1)), (1, .ref (xb x + l1)), (2, .ref (xb x + l2)), (3, vI l3)]) rfl ?_
      refine V_goto (tgt := 3) X dX10_copies_20 (by decide) ?_
      exact V_sub [1, 2, 3, 0] rfl (hc3 _ (Option.some.inj h).symm)
  unfold m_copies at h
  show V x 5 Km 0 0 sz g 0 [(0, .ref (xb x + 0)), (1, .ref (xb x + l1)), (2, .ref (xb x + l2)), (3, vI l3)] []
  refine V_iconst X dX10_copies_0 ?_
  refine V_istore X dX10_copies_1 (by decide) (L' := [(4, vI 0), (0, .ref (xb x + 0)), (1, .ref (xb x + l1)), (2, .ref (xb x + l2)), (3, vI l3)]) rfl ?_
  exact V_sub [2, 3, 4, 0] rfl (LL3 l3 N (g, 0) _ h rfl)
set_option maxHeartbeats 4000000 in
theorem con_m_sets (N : Nat) (g : GS) (r : GS) (h : m_sets N g = some r) : Con yX10_sets cX10_sets 2 none 2 36 Km (fun b => [.ref (b + 0)]) g (fun _ => none) r := by
  refine Con.of RX10 (by decide) rfl (fun b => Nat.le_of_ble_eq_true rfl) (fun x sz hX => ?_)
  have X := hX.1
  have LL175 : ∀  (n : Nat) (s : (GS × Int)) (e : (GS)), loopN (fun s => m_sets_b175 N s.1 s.2) n s = some e → V x 2 Km 0 0 sz e 193 [(0, .ref (xb x + 0))] [] → V x 2 Km 0 0 sz s.1 175 [(0, .ref (xb x + 0)), (1, vI s.2)] [] := by
    intro  n s e
    refine loop_walk (P := fun s => V x 2 Km 0 0 sz s.1 175 [(0, .ref (xb x + 0)), (1, vI s.2)] []) (E := fun e => V x 2 Km 0 0 sz e 193 [(0, .ref (xb x + 0))] []) ?_ n s e
    clear e s n
    rintro ⟨g, l1⟩ q175 h hc175 he175
    replace h : m_sets_b175 N g l1 = some q175 := h
    unfold m_sets_b175 at h
    show V x 2 Km 0 0 sz g 175 [(0, .ref (xb x + 0)), (1, vI l1)] []
    refine V_iload_n X dX10_sets_175 1 rfl ?_
    refine V_iconst X dX10_sets_176 ?_
    refine V_icmp_ge (tgt := 193) X dX10_sets_177 (by decide) h (fun h => ?_) (fun h => ?_)
    · exact V_sub [0] rfl (he175 _ (Option.some.inj h).symm)
    · refine V_aload_n X dX10_sets_180 0 rfl ?_
      refine getX10 X (o := 0) (j := 48) rfl (by decide) q1596 (fv_1 (i := 28) rfl rfl) dX10_sets_181 ?_
      refine V_iload_n X dX10_sets_184 1 rfl ?_
      refine V_iconst X dX10_sets_185 ?_
      refine V_iast X (o := 28) (n := 3) rfl (by decide) dX10_sets_186 h (fun g186 h => ?_)
      refine V_iinc X dX10_sets_187 1 rfl (by decide) (L' := [(1, vI (l1 + 1)), (0, .ref (xb x + 0))]) rfl ?_
      refine V_goto (tgt := 175) X dX10_sets_190 (by decide) ?_
      exact V_sub [1, 0] rfl (hc175 _ (Option.some.inj h).symm)
  have LL138 : ∀  (n : Nat) (s : (GS × Int)) (e : (GS)), loopN (fun s => m_sets_b138 N s.1 s.2) n s = some e → V x 2 Km 0 0 sz e 163 [(0, .ref (xb x + 0))] [] → V x 2 Km 0 0 sz s.1 138 [(0, .ref (xb x + 0)), (1, vI s.2)] [] := by
    intro  n s e
    refine loop_walk (P := fun s => V x 2 Km 0 0 sz s.1 138 [(0, .ref (xb x + 0)), (1, vI s.2)] []) (E := fun e => V x 2 Km 0 0 sz e 163 [(0, .ref (xb x + 0))] []) ?_ n s e
    clear e s n
    rintro ⟨g, l1⟩ q138 h hc138 he138
    replace h : m_sets_b138 N g l1 = some q138 := h
    unfold m_sets_b138 at h
    show V x 2 Km 0 0 sz g 138 [(0, .ref (xb x + 0)), (1, vI l1)] []
    refine V_iload_n X dX10_sets_138 1 rfl ?_
    refine V_sipush X dX10_sets_139 (by decide) ?_
    refine V_icmp_ge (tgt := 163) X dX10_sets_142 (by decide) h (fun h => ?_) (fun h => ?_)
    · exact V_sub [0] rfl (he138 _ (Option.some.inj h).symm)
    · refine V_aload_n X dX10_sets_145 0 rfl ?_
      refine getX10 X (o := 0) (j := 23) rfl (by decide) q1571 (fv_1 (i := 16) rfl rfl) dX10_sets_146 ?_
      refine V_iload_n X dX10_sets_149 1 rfl ?_
      refine V_aload_n X dX10_sets_150 0 rfl ?_
      refine getX10 X (o := 0) (j := 22) rfl (by decide) q1570 (fv_1 (i := 15) rfl rfl) dX10_sets_151 ?_
      refine V_iload_n X dX10_sets_154 1 rfl ?_
      refine V_zald X (o := 15) (n := 241) rfl (by decide) dX10_sets_155 h (fun v155 h => ?_)
      refine V_zast X (o := 16) (n := 241) rfl (by decide) dX10_sets_156 h (fun g156 h => ?_)
      refine V_iinc X dX10_sets_157 1 rfl (by decide) (L' := [(1, vI (l1 + 1)), (0, .ref (xb x + 0))]) rfl ?_
      refine V_goto (tgt := 138) X dX10_sets_160 (by decide) ?_
      exact V_sub [1, 0] rfl (hc138 _ (Option.some.inj h).symm)
  unfold m_sets at h
  show V x 2 Km 0 0 sz g 0 [(0, .ref (xb x + 0))] []
  refine V_aload_n X dX10_sets_0 0 rfl ?_
  refine V_aload_n X dX10_sets_1 0 rfl ?_
  refine getX10 X (o := 0) (j := 26) rfl (by decide) q1574 (fv_0 rfl) dX10_sets_2 ?_
  refine putX10 X (o := 0) (j := 32) (a := (gI g 926 0)) rfl (by decide) rfl rfl rfl q1580 dX10_sets_5 ?_
  refine V_aload_n X dX10_sets_8 0 rfl ?_
  refine V_aload_n X dX10_sets_9 0 rfl ?_
  refine getX10 X (o := 0) (j := 27) rfl (by decide) q1575 (fv_0 rfl) dX10_sets_10 ?_
  refine putX10 X (o := 0) (j := 33) (a := (gI (sI g 932 0 (gI g 926 0)) 927 0)) rfl (by decide) rfl rfl rfl q1581 dX10_sets_13 ?_
  refine V_aload_n X dX10_sets_16 0 rfl ?_
  refine V_aload_n X dX10_sets_17 0 rfl ?_
  refine getX10 X (o := 0) (j := 29) rfl (by decide) q1577 (fv_0 rfl) dX10_sets_18 ?_
  refine putX10 X (o := 0) (j := 34) (a := (gI (sI (sI g 932 0 (gI g 926 0)) 933 0 (gI (sI g 932 0 (gI g 926 0)) 927 0)) 929 0)) rfl (by decide) rfl rfl rfl q1582 dX10_sets_21 ?_
  refine V_aload_n X dX10_sets_24 0 rfl ?_
  refine V_aload_n X dX10_sets_25 0 rfl ?_
  refine getX10 X (o := 0) (j := 30) rfl (by decide) q1578 (fv_0 rfl) dX10_sets_26 ?_
  refine putX10 X (o := 0) (j := 35) (a := (gI (sI (sI (sI g 932 0 (gI g 926 0)) 933 0 (gI (sI g 932 0 (gI g 926 0)) 927 0)) 934 0 (gI (sI (sI g 932 0 (gI g 926 0)) 933 0 (gI (sI g 932 0 (gI g 926 0)) 927 0)) 929 0)) 930 0)) rfl (by decide) rfl rfl rfl q1583 dX10_sets_29 ?_
  refine V_aload_n X dX10_sets_32 0 rfl ?_
  refine V_aload_n X dX10_sets_33 0 rfl ?_
  refine getX10 X (o := 0) (j := 31) rfl (by decide) q1579 (fv_0 rfl) dX10_sets_34 ?_
  refine putX10 X (o := 0) (j := 36) (a := (gI (sI (sI (sI (sI g 932 0 (gI g 926 0)) 933 0 (gI (sI g 932 0 (gI g 926 0)) 927 0)) 934 0 (gI (sI (sI g 932 0 (gI g 926 0)) 933 0 (gI (sI g 932 0 (gI g 926 0)) 927 0)) 929 0)) 935 0 (gI (sI (sI (sI g 932 0 (gI g 926 0)) 933 0 (gI (sI g 932 0 (gI g 926 0)) 927 0)) 934 0 (gI (sI (sI g 932 0 (gI g 926 0)) 933 0 (gI (sI g 932 0 (gI g 926 0)) 927 0)) 929 0)) 930 0)) 931 0)) rfl (by decide) rfl rfl rfl q1584 dX10_sets_37 ?_
  refine V_aload_n X dX10_sets_40 0 rfl ?_
  refine V_aload_n X dX10_sets_41 0 rfl ?_
  refine getX10 X (o := 0) (j := 10) rfl (by decide) q1558 (fv_1 (i := 3) rfl rfl) dX10_sets_42 ?_
  refine V_aload_n X dX10_sets_45 0 rfl ?_
  refine getX10 X (o := 0) (j := 16) rfl (by decide) q1564 (fv_1 (i := 9) rfl rfl) dX10_sets_46 ?_
  refine V_iconst X dX10_sets_49 ?_
  obtain ⟨c50, hc50, h⟩ := bind_some_eq h
  refine V_callV (As := [.ref (xb x + 3), .ref (xb x + 9), vI 4]) (rest := []) (s1 := []) (o := 0) X (con_m_copies N 3 4 9 4 ⟨rfl, (by decide)⟩ ⟨rfl, (by decide)⟩ (sI (sI (sI (sI (sI g 932 0 (gI g 926 0)) 933 0 (gI (sI g 932 0 (gI g 926 0)) 927 0)) 934 0 (gI (sI (sI g 932 0 (gI g 926 0)) 933 0 (gI (sI g 932 0 (gI g 926 0)) 927 0)) 929 0)) 935 0 (gI (sI (sI (sI g 932 0 (gI g 926 0)) 933 0 (gI (sI g 932 0 (gI g 926 0)) 927 0)) 934 0 (gI (sI (sI g 932 0 (gI g 926 0)) 933 0 (gI (sI g 932 0 (gI g 926 0)) 927 0)) 929 0)) 930 0)) 936 0 (gI (sI (sI (sI (sI g 932 0 (gI g 926 0)) 933 0 (gI (sI g 932 0 (gI g 926 0)) 927 0)) 934 0 (gI (sI (sI g 932 0 (gI g 926 0)) 933 0 (gI (sI g 932 0 (gI g 926 0)) 927 0)) 929 0)) 935 0 (gI (sI (sI (sI g 932 0 (gI g 926 0)) 933 0 (gI (sI g 932 0 (gI g 926 0)) 927 0)) 934 0 (gI (sI (sI g 932 0 (gI g 926 0)) 933 0 (gI (sI g 932 0 (gI g 926 0)) 927 0)) 929 0)) 930 0)) 931 0)) 4 c50 hc50) gwX10_copies hdX10_copies (by decide) rfl (by decide) rfl rfl rfl (Nat.le_of_ble_eq_true rfl) ⟨Nat.zero_le _, Nat.zero_le _⟩ dX10_sets_50 rfl rfl ?_
  refine V_aload_n X dX10_sets_53 0 rfl ?_
  refine V_aload_n X dX10_sets_54 0 rfl ?_
  refine getX10 X (o := 0) (j := 11) rfl (by decide) q1559 (fv_1 (i := 4) rfl rfl) dX10_sets_55 ?_
  refine V_aload_n X dX10_sets_58 0 rfl ?_
  refine getX10 X (o := 0) (j := 17) rfl (by decide) q1565 (fv_1 (i := 10) rfl rfl) dX10_sets_59 ?_
  refine V_bipush X dX10_sets_62 (by decide) ?_
  obtain ⟨c64, hc64, h⟩ := bind_some_eq h
  refine V_callV (As := [.ref (xb x + 4), .ref (xb x + 10), vI 60]) (rest := []) (s1 := []) (o := 0) X (con_m_copies N 4 60 10 60 ⟨rfl, (by decide)⟩ ⟨rfl, (by decide)⟩ c50 60 c64 hc64) gwX10_copies hdX10_copies (by decide) rfl (by decide) rfl rfl rfl (Nat.le_of_ble_eq_true rfl) ⟨Nat.zero_le _, Nat.zero_le _⟩ dX10_sets_64 rfl rfl ?_
  refine V_aload_n X dX10_sets_67 0 rfl ?_
  refine V_aload_n X dX10_sets_68 0 rfl ?_
  refine getX10 X (o := 0) (j := 12) rfl (by decide) q1560 (fv_1 (i := 5) rfl rfl) dX10_sets_69 ?_
  refine V_aload_n X dX10_sets_72 0 rfl ?_
  refine getX10 X (o := 0) (j := 18) rfl (by decide) q1566 (fv_1 (i := 11) rfl rfl) dX10_sets_73 ?_
  refine V_bipush X dX10_sets_76 (by decide) ?_
  obtain ⟨c78, hc78, h⟩ := bind_some_eq h
  refine V_callV (As := [.ref (xb x + 5), .ref (xb x + 11), vI 60]) (rest := []) (s1 := []) (o := 0) X (con_m_copies N 5 60 11 60 ⟨rfl, (by decide)⟩ ⟨rfl, (by decide)⟩ c64 60 c78 hc78) gwX10_copies hdX10_copies (by decide) rfl (by decide) rfl rfl rfl (Nat.le_of_ble_eq_true rfl) ⟨Nat.zero_le _, Nat.zero_le _⟩ dX10_sets_78 rfl rfl ?_
  refine V_aload_n X dX10_sets_81 0 rfl ?_
  refine V_aload_n X dX10_sets_82 0 rfl ?_
  refine getX10 X (o := 0) (j := 13) rfl (by decide) q1561 (fv_1 (i := 6) rfl rfl) dX10_sets_83 ?_
  refine V_aload_n X dX10_sets_86 0 rfl ?_
  refine getX10 X (o := 0) (j := 19) rfl (by decide) q1567 (fv_1 (i := 12) rfl rfl) dX10_sets_87 ?_
  refine V_bipush X dX10_sets_90 (by decide) ?_
  obtain ⟨c92, hc92, h⟩ := bind_some_eq h
  refine V_callV (As := [.ref (xb x + 6), .ref (xb x + 12), vI 6]) (rest := []) (s1 := []) (o := 0) X (con_m_copies N 6 6 12 6 ⟨rfl, (by decide)⟩ ⟨rfl, (by decide)⟩ c78 6 c92 hc92) gwX10_copies hdX10_copies (by decide) rfl (by decide) rfl rfl rfl (Nat.le_of_ble_eq_true rfl) ⟨Nat.zero_le _, Nat.zero_le _⟩ dX10_sets_92 rfl rfl ?_
  refine V_aload_n X dX10_sets_95 0 rfl ?_
  refine V_aload_n X dX10_sets_96 0 rfl ?_
  refine getX10 X (o := 0) (j := 14) rfl (by decide) q1562 (fv_1 (i := 7) rfl rfl) dX10_sets_97 ?_
  refine V_aload_n X dX10_sets_100 0 rfl ?_
  refine getX10 X (o := 0) (j := 20) rfl (by decide) q1568 (fv_1 (i := 13) rfl rfl) dX10_sets_101 ?_
  refine V_bipush X dX10_sets_104 (by decide) ?_
  obtain ⟨c106, hc106, h⟩ := bind_some_eq h
  refine V_callV (As := [.ref (xb x + 7), .ref (xb x + 13), vI 8]) (rest := []) (s1 := []) (o := 0) X (con_m_copies N 7 8 13 8 ⟨rfl, (by decide)⟩ ⟨rfl, (by decide)⟩ c92 8 c106 hc106) gwX10_copies hdX10_copies (by decide) rfl (by decide) rfl rfl rfl (Nat.le_of_ble_eq_true rfl) ⟨Nat.zero_le _, Nat.zero_le _⟩ dX10_sets_106 rfl rfl ?_
  refine V_aload_n X dX10_sets_109 0 rfl ?_
  refine V_aload_n X dX10_sets_110 0 rfl ?_
  refine getX10 X (o := 0) (j := 15) rfl (by decide) q1563 (fv_1 (i := 8) rfl rfl) dX10_sets_111 ?_
  refine V_aload_n X dX10_sets_114 0 rfl ?_
  refine getX10 X (o := 0) (j := 21) rfl (by decide) q1569 (fv_1 (i := 14) rfl rfl) dX10_sets_115 ?_
  refine V_bipush X dX10_sets_118 (by decide) ?_
  obtain ⟨c120, hc120, h⟩ := bind_some_eq h
  refine V_callV (As := [.ref (xb x + 8), .ref (xb x + 14), vI 16]) (rest := []) (s1 := []) (o := 0) X (con_m_copies N 8 16 14 16 ⟨rfl, (by decide)⟩ ⟨rfl, (by decide)⟩ c106 16 c120 hc120) gwX10_copies hdX10_copies (by decide) rfl (by decide) rfl rfl rfl (Nat.le_of_ble_eq_true rfl) ⟨Nat.zero_le _, Nat.zero_le _⟩ dX10_sets_120 rfl rfl ?_
  refine V_aload_n X dX10_sets_123 0 rfl ?_
  refine V_aload_n X dX10_sets_124 0 rfl ?_
  refine getX10 X (o := 0) (j := 24) rfl (by decide) q1572 (fv_1 (i := 17) rfl rfl) dX10_sets_125 ?_
  refine V_aload_n X dX10_sets_128 0 rfl ?_
  refine getX10 X (o := 0) (j := 25) rfl (by decide) q1573 (fv_1 (i := 18) rfl rfl) dX10_sets_129 ?_
  refine V_iconst X dX10_sets_132 ?_
  obtain ⟨c133, hc133, h⟩ := bind_some_eq h
  refine V_callV (As := [.ref (xb x + 17), .ref (xb x + 18), vI 5]) (rest := []) (s1 := []) (o := 0) X (con_m_copies N 17 5 18 5 ⟨rfl, (by decide)⟩ ⟨rfl, (by decide)⟩ c120 5 c133 hc133) gwX10_copies hdX10_copies (by decide) rfl (by decide) rfl rfl rfl (Nat.le_of_ble_eq_true rfl) ⟨Nat.zero_le _, Nat.zero_le _⟩ dX10_sets_133 rfl rfl ?_
  refine V_iconst X dX10_sets_136 ?_
  refine V_istore_n X dX10_sets_137 (by decide) (L' := [(1, vI 0), (0, .ref (xb x + 0))]) rfl ?_
  obtain ⟨t1, t1q, h⟩ := bind_some_eq h
  refine V_sub [1, 0] rfl (LL138 N (c133, 0) _ t1q ?_)
  refine V_aload_n X dX10_sets_163 0 rfl ?_
  refine V_iconst X dX10_sets_164 ?_
  refine putX10 X (o := 0) (j := 43) (a := 0) rfl (by decide) rfl rfl rfl q1591 dX10_sets_165 ?_
  refine V_aload_n X dX10_sets_168 0 rfl ?_
  refine V_iconst X dX10_sets_169 ?_
  refine putX10 X (o := 0) (j := 49) (a := 0) rfl (by decide) rfl rfl rfl q1597 dX10_sets_170 ?_
  refine V_iconst X dX10_sets_173 ?_
  refine V_istore_n X dX10_sets_174 (by decide) (L' := [(1, vI 0), (0, .ref (xb x + 0))]) rfl ?_
  obtain ⟨t2, t2q, h⟩ := bind_some_eq h
  refine V_sub [1, 0] rfl (LL175 N ((sI (sI t1 943 0 0) 949 0 0), 0) _ t2q ?_)
  refine V_aload_n X dX10_sets_193 0 rfl ?_
  refine V_iconst X dX10_sets_194 ?_
  refine putX10 X (o := 0) (j := 50) (a := 0) rfl (by decide) rfl rfl rfl q1598 dX10_sets_195 ?_
  refine V_aload_n X dX10_sets_198 0 rfl ?_
  refine V_iconst X dX10_sets_199 ?_
  refine putX10 X (o := 0) (j := 70) (a := 0) rfl (by decide) rfl rfl rfl q1618 dX10_sets_200 ?_
  refine V_aload_n X dX10_sets_203 0 rfl ?_
  refine V_iconst X dX10_sets_204 ?_
  refine putX10 X (o := 0) (j := 72) (a := 0) rfl (by decide) rfl rfl rfl q1620 dX10_sets_205 ?_
  have hr := Option.some.inj h
  subst hr
  exact V_end_v hX rfl dX10_sets_208
set_option maxHeartbeats 4000000 in
theorem con_m_feed (N : Nat) (g : GS) (l1 : Int) (l2 : Int) (l3 : Int) (l4 : Int) (l5 : Int) (r : (Int × GS)) (h : m_feed N g l1 l2 l3 l4 l5 = some r) : Con yX10_feed cX10_feed 8 (some .int) 1 12 Km (fun b => [.ref (b + 0), vI l1, vI l2, vI l3, vI l4, vI l5]) g (fun _ => some (vI r.1)) r.2 := by
  refine Con.of RX10 (by decide) rfl (fun b => Nat.le_of_ble_eq_true rfl) (fun x sz hX => ?_)
  have X := hX.1
  have LL23 : ∀ (l1 : Int) (l2 : Int) (l3 : Int) (l4 : Int) (l5 : Int) (n : Nat) (s : (GS × Int)) (e : (Int × GS)), loopN (fun s => m_feed_b23 N l1 l2 l3 l4 l5 s.1 s.2) n s = some e → (e = r) → V x 8 Km 0 0 sz s.1 23 [(0, .ref (xb x + 0)), (1, vI l1), (2, vI l2), (3, vI l3), (4, vI l4), (5, vI l5), (6, vI s.2)] [] := by
    intro l1 l2 l3 l4 l5 n s e
    refine loop_walk (P := fun s => V x 8 Km 0 0 sz s.1 23 [(0, .ref (xb x + 0)), (1, vI l1), (2, vI l2), (3, vI l3), (4, vI l4), (5, vI l5), (6, vI s.2)] []) (E := fun e => e = r) ?_ n s e
    clear e s n
    rintro ⟨g, l6⟩ q23 h hc23 he23
    replace h : m_feed_b23 N l1 l2 l3 l4 l5 g l6 = some q23 := h
    have J76 : ∀ (g : GS) (l6 : Int) (s0 : Int), m_feed_j76 N g l1 l2 l3 l4 l5 l6 s0 = some q23 → V x 8 Km 0 0 sz g 76 [(0, .ref (xb x + 0)), (1, vI l1), (2, vI l2), (3, vI l3), (4, vI l4), (5, vI l5), (6, vI l6)] [vI s0] := by
      intro g l6 s0 h
      unfold m_feed_j76 at h
      refine V_istore X dX10_feed_76 (by decide) (L' := [(7, vI s0), (0, .ref (xb x + 0)), (1, vI l1), (2, vI l2), (3, vI l3), (4, vI l4), (5, vI l5), (6, vI l6)]) rfl ?_
      refine V_aload_n X dX10_feed_78 1 rfl ?_
      refine getX10 X (o := 0) (j := 9) rfl (by decide) q1557 (fv_1 (i := 2) rfl rfl) dX10_feed_79 ?_
      refine V_aload_n X dX10_feed_82 1 rfl ?_
      refine getX10 X (o := 0) (j := 2) rfl (by decide) q1550 (fv_0 rfl) dX10_feed_83 ?_
      refine V_iload X dX10_feed_86 0 rfl ?_
      refine V_bipush X dX10_feed_88 (by decide) ?_
      refine V_bipush X dX10_feed_90 (by decide) ?_
      refine V_iload X dX10_feed_92 7 rfl ?_
      refine V_iconst X dX10_feed_94 ?_
      refine V_iremK X dX10_feed_95 (by decide) ?_
      refine V_imul X dX10_feed_96 ?_
      refine V_isub X dX10_feed_97 ?_
      refine V_ishr X dX10_feed_98 ?_
      refine V_sipush X dX10_feed_99 (by decide) ?_
      refine V_iand X dX10_feed_102 ?_
      refine V_iast X (o := 2) (n := 600) rfl (by decide) dX10_feed_103 h (fun g103 h => ?_)
      refine V_aload_n X dX10_feed_104 1 rfl ?_
      refine V_dup X dX10_feed_105 rfl ?_
      refine getX10 X (o := 0) (j := 2) rfl (by decide) q1550 (fv_0 rfl) dX10_feed_106 ?_
      refine V_iconst X dX10_feed_109 ?_
      refine V_iadd X dX10_feed_110 ?_
      refine putX10 X (o := 0) (j := 2) (a := ((gI g103 902 0) + 1)) rfl (by decide) rfl rfl rfl q1550 dX10_feed_111 ?_
      refine V_iinc X dX10_feed_114 7 rfl (by decide) (L' := [(6, vI (l6 + 1)), (7, vI s0), (0, .ref (xb x + 0)), (1, vI l1), (2, vI l2), (3, vI l3), (4, vI l4), (5, vI l5)]) rfl ?_
      refine V_goto (tgt := 23) X dX10_feed_117 (by decide) ?_
      exact V_sub [2, 3, 4, 5, 6, 7, 0] rfl (hc23 _ (Option.some.inj h).symm)
    unfold m_feed_b23 at h
    show V x 8 Km 0 0 sz g 23 [(0, .ref (xb x + 0)), (1, vI l1), (2, vI l2), (3, vI l3), (4, vI l4), (5, vI l5), (6, vI l6)] []
    refine V_iload X dX10_feed_23 6 rfl ?_
    refine V_bipush X dX10_feed_25 (by decide) ?_
    refine V_icmp_ge (tgt := 120) X dX10_feed_27 (by decide) h (fun h => ?_) (fun h => ?_)
    · obtain ⟨e1, h, e1q⟩ := outR_some h
      replace h := h.trans (congrArg some (he23 _ e1q))
      refine V_aload_n X dX10_feed_120 0 rfl ?_
      refine getX10 X (o := 0) (j := 2) rfl (by decide) q1550 (fv_0 rfl) dX10_feed_121 ?_
      have hr := Option.some.inj h
      subst hr
      exact V_end_i hX rfl dX10_feed_124
    · refine V_iload X dX10_feed_30 6 rfl ?_
      refine V_iconst X dX10_feed_32 ?_
      refine V_icmp_ge (tgt := 40) X dX10_feed_33 (by decide) h (fun h => ?_) (fun h => ?_)
      · refine V_iload X dX10_feed_40 6 rfl ?_
        refine V_bipush X dX10_feed_42 (by decide) ?_
        refine V_icmp_ge (tgt := 51) X dX10_feed_44 (by decide) h (fun h => ?_) (fun h => ?_)
        · refine V_iload X dX10_feed_51 6 rfl ?_
          refine V_bipush X dX10_feed_53 (by decide) ?_
          refine V_icmp_ge (tgt := 62) X dX10_feed_55 (by decide) h (fun h => ?_) (fun h => ?_)
          · refine V_iload X dX10_feed_62 6 rfl ?_
            refine V_bipush X dX10_feed_64 (by decide) ?_
            refine V_icmp_ge (tgt := 74) X dX10_feed_66 (by decide) h (fun h => ?_) (fun h => ?_)
            · refine V_iload X dX10_feed_74 5 rfl ?_
              exact V_sub [0, 1, 2, 3, 4, 5, 6] rfl (J76 _ _ _ h)
            · refine V_iload X dX10_feed_69 4 rfl ?_
              refine V_goto (tgt := 76) X dX10_feed_71 (by decide) ?_
              exact V_sub [0, 1, 2, 3, 4, 5, 6] rfl (J76 _ _ _ h)
          · refine V_iload_n X dX10_feed_58 3 rfl ?_
            refine V_goto (tgt := 76) X dX10_feed_59 (by decide) ?_
            exact V_sub [0, 1, 2, 3, 4, 5, 6] rfl (J76 _ _ _ h)
        · refine V_iload_n X dX10_feed_47 2 rfl ?_
          refine V_goto (tgt := 76) X dX10_feed_48 (by decide) ?_
          exact V_sub [0, 1, 2, 3, 4, 5, 6] rfl (J76 _ _ _ h)
      · refine V_iload_n X dX10_feed_36 1 rfl ?_
        refine V_goto (tgt := 76) X dX10_feed_37 (by decide) ?_
        exact V_sub [0, 1, 2, 3, 4, 5, 6] rfl (J76 _ _ _ h)
  unfold m_feed at h
  show V x 8 Km 0 0 sz g 0 [(0, .ref (xb x + 0)), (1, vI l1), (2, vI l2), (3, vI l3), (4, vI l4), (5, vI l5)] []
  refine V_aload_n X dX10_feed_0 0 rfl ?_
  refine V_iconst X dX10_feed_1 ?_
  refine putX10 X (o := 0) (j := 0) (a := 0) rfl (by decide) rfl rfl rfl q1548 dX10_feed_2 ?_
  refine V_aload_n X dX10_feed_5 0 rfl ?_
  refine getX10 X (o := 0) (j := 2) rfl (by decide) q1550 (fv_0 rfl) dX10_feed_6 ?_
  refine V_bipush X dX10_feed_9 (by decide) ?_
  refine V_iadd X dX10_feed_11 ?_
  refine V_sipush X dX10_feed_12 (by decide) ?_
  refine V_icmp_le (tgt := 20) X dX10_feed_15 (by decide) h (fun h => ?_) (fun h => ?_)
  · refine V_iconst X dX10_feed_20 ?_
    refine V_istore X dX10_feed_21 (by decide) (L' := [(6, vI 0), (0, .ref (xb x + 0)), (1, vI l1), (2, vI l2), (3, vI l3), (4, vI l4), (5, vI l5)]) rfl ?_
    exact V_sub [1, 2, 3, 4, 5, 6, 0] rfl (LL23 l1 l2 l3 l4 l5 N ((sI g 900 0 0), 0) _ h rfl)
  · refine V_iconst X dX10_feed_18 ?_
    have hr := Option.some.inj h
    subst hr
    exact V_end_i hX rfl dX10_feed_19
set_option maxHeartbeats 4000000 in
theorem con_m_fine (g : GS) (r : Int) (h : m_fine g = some r) : Con yX10_fine cX10_fine 1 (some .boolean) 1 12 Km (fun b => [.ref (b + 0)]) g (fun _ => some (vI r)) g := by
  refine Con.of RX10 (by decide) rfl (fun b => Nat.le_of_ble_eq_true rfl) (fun x sz hX => ?_)
  have X := hX.1
  unfold m_fine at h
  show V x 1 Km 0 0 sz g 0 [(0, .ref (xb x + 0))] []
  refine V_aload_n X dX10_fine_0 0 rfl ?_
  refine getX10 X (o := 0) (j := 5) rfl (by decide) q1553 (fv_0 rfl) dX10_fine_1 ?_
  refine V_iconst X dX10_fine_4 ?_
  refine V_icmp_ne (tgt := 12) X dX10_fine_5 (by decide) h (fun h => ?_) (fun h => ?_)
  · refine V_iconst X dX10_fine_12 ?_
    have hr := Option.some.inj h
    subst hr
    exact V_end_z hX (Or.inl rfl) rfl dX10_fine_13
  · refine V_iconst X dX10_fine_8 ?_
    refine V_goto (tgt := 13) X dX10_fine_9 (by decide) ?_
    have hr := Option.some.inj h
    subst hr
    exact V_end_z hX (Or.inr rfl) rfl dX10_fine_13
set_option maxHeartbeats 4000000 in
theorem con_m_wrong (g : GS) (l1 : Int) (l2 : Int) (r : GS) (h : m_wrong g l1 l2 = some r) : Con yX10_wrong cX10_wrong 3 none 1 12 Km (fun b => [.ref (b + 0), vI l1, vI l2]) g (fun _ => none) r := by
  refine Con.of RX10 (by decide) rfl (fun b => Nat.le_of_ble_eq_true rfl) (fun x sz hX => ?_)
  have X := hX.1
  unfold m_wrong at h
  show V x 3 Km 0 0 sz g 0 [(0, .ref (xb x + 0)), (1, vI l1), (2, vI l2)] []
  refine V_aload_n X dX10_wrong_0 0 rfl ?_
  refine getX10 X (o := 0) (j := 5) rfl (by decide) q1553 (fv_0 rfl) dX10_wrong_1 ?_
  refine V_iconst X dX10_wrong_4 ?_
  refine V_icmp_eq (tgt := 9) X dX10_wrong_5 (by decide) h (fun h => ?_) (fun h => ?_)
  · refine V_aload_n X dX10_wrong_9 0 rfl ?_
    refine V_iload_n X dX10_wrong_10 2 rfl ?_
    refine putX10 X (o := 0) (j := 5) (a := l2) rfl (by decide) rfl rfl rfl q1553 dX10_wrong_11 ?_
    refine V_aload_n X dX10_wrong_14 0 rfl ?_
    refine V_iload_n X dX10_wrong_15 1 rfl ?_
    refine putX10 X (o := 0) (j := 6) (a := l1) rfl (by decide) rfl rfl rfl q1554 dX10_wrong_16 ?_
    have hr := Option.some.inj h
    subst hr
    exact V_end_v hX rfl dX10_wrong_19
  · have hr := Option.some.inj h
    subst hr
    exact V_end_v hX rfl dX10_wrong_8
set_option maxHeartbeats 4000000 in
theorem con_m_here (N : Nat) (g : GS) (r : (Int × GS)) (h : m_here N g = some r) : Con yX10_here cX10_here 1 (some .int) 1 12 Km (fun b => [.ref (b + 0)]) g (fun _ => some (vI r.1)) r.2 := by
  refine Con.of RX10 (by decide) rfl (fun b => Nat.le_of_ble_eq_true rfl) (fun x sz hX => ?_)
  have X := hX.1
  have J38 : ∀ (g : GS), m_here_j38 N g = some r → V x 1 Km 0 0 sz g 38 [(0, .ref (xb x + 0))] [] := by
    intro g h
    unfold m_here_j38 at h
    refine V_aload_n X dX10_here_38 0 rfl ?_
    refine getX10 X (o := 0) (j := 4) rfl (by decide) q1552 (fv_0 rfl) dX10_here_39 ?_
    refine V_aload_n X dX10_here_42 0 rfl ?_
    refine getX10 X (o := 0) (j := 3) rfl (by decide) q1551 (fv_0 rfl) dX10_here_43 ?_
    refine V_icmp_ge (tgt := 61) X dX10_here_46 (by decide) h (fun h => ?_) (fun h => ?_)
    · refine V_iconst X dX10_here_61 ?_
      have hr := Option.some.inj h
      subst hr
      exact V_end_i hX rfl dX10_here_62
    · refine V_aload_n X dX10_here_49 0 rfl ?_
      refine getX10 X (o := 0) (j := 9) rfl (by decide) q1557 (fv_1 (i := 2) rfl rfl) dX10_here_50 ?_
      refine V_aload_n X dX10_here_53 0 rfl ?_
      refine getX10 X (o := 0) (j := 4) rfl (by decide) q1552 (fv_0 rfl) dX10_here_54 ?_
      refine V_iald X (o := 2) (n := 600) rfl (by decide) dX10_here_57 h (fun v57 h => ?_)
      refine V_goto (tgt := 62) X dX10_here_58 (by decide) ?_
      have hr := Option.some.inj h
      subst hr
      exact V_end_i hX rfl dX10_here_62
  have LL0 : ∀  (n : Nat) (s : (GS)) (e : (GS)), loopN (fun s => m_here_b0 N s) n s = some e → V x 1 Km 0 0 sz e 38 [(0, .ref (xb x + 0))] [] → V x 1 Km 0 0 sz s 0 [(0, .ref (xb x + 0))] [] := by
    intro  n s e
    refine loop_walk (P := fun s => V x 1 Km 0 0 sz s 0 [(0, .ref (xb x + 0))] []) (E := fun e => V x 1 Km 0 0 sz e 38 [(0, .ref (xb x + 0))] []) ?_ n s e
    clear e s n
    rintro g q0 h hc0 he0
    replace h : m_here_b0 N g = some q0 := h
    unfold m_here_b0 at h
    show V x 1 Km 0 0 sz g 0 [(0, .ref (xb x + 0))] []
    refine V_aload_n X dX10_here_0 0 rfl ?_
    refine getX10 X (o := 0) (j := 4) rfl (by decide) q1552 (fv_0 rfl) dX10_here_1 ?_
    refine V_aload_n X dX10_here_4 0 rfl ?_
    refine getX10 X (o := 0) (j := 3) rfl (by decide) q1551 (fv_0 rfl) dX10_here_5 ?_
    refine V_icmp_ge (tgt := 38) X dX10_here_8 (by decide) h (fun h => ?_) (fun h => ?_)
    · exact V_sub [0] rfl (he0 _ (Option.some.inj h).symm)
    · refine V_aload_n X dX10_here_11 0 rfl ?_
      refine getX10 X (o := 0) (j := 9) rfl (by decide) q1557 (fv_1 (i := 2) rfl rfl) dX10_here_12 ?_
      refine V_aload_n X dX10_here_15 0 rfl ?_
      refine getX10 X (o := 0) (j := 4) rfl (by decide) q1552 (fv_0 rfl) dX10_here_16 ?_
      refine V_iald X (o := 2) (n := 600) rfl (by decide) dX10_here_19 h (fun v19 h => ?_)
      refine V_bipush X dX10_here_20 (by decide) ?_
      refine V_icmp_ne (tgt := 38) X dX10_here_22 (by decide) h (fun h => ?_) (fun h => ?_)
      · exact V_sub [0] rfl (he0 _ (Option.some.inj h).symm)
      · refine V_aload_n X dX10_here_25 0 rfl ?_
        refine V_dup X dX10_here_26 rfl ?_
        refine getX10 X (o := 0) (j := 4) rfl (by decide) q1552 (fv_0 rfl) dX10_here_27 ?_
        refine V_iconst X dX10_here_30 ?_
        refine V_iadd X dX10_here_31 ?_
        refine putX10 X (o := 0) (j := 4) (a := ((gI g 904 0) + 1)) rfl (by decide) rfl rfl rfl q1552 dX10_here_32 ?_
        refine V_goto (tgt := 0) X dX10_here_35 (by decide) ?_
        exact V_sub [0] rfl (hc0 _ (Option.some.inj h).symm)
  unfold m_here at h
  show V x 1 Km 0 0 sz g 0 [(0, .ref (xb x + 0))] []
  obtain ⟨t1, t1q, h⟩ := bind_some_eq h
  refine V_sub [0] rfl (LL0 N g _ t1q ?_)
  exact V_sub [0] rfl (J38 _ h)
set_option maxHeartbeats 4000000 in
theorem con_m_isSmall (g : GS) (l0 : Int) (r : Int) (h : m_isSmall l0 = some r) : Con yX10_isSmall cX10_isSmall 1 (some .boolean) 1 12 Km (fun b => [vI l0]) g (fun _ => some (vI r)) g := by
  refine Con.of RX10 (by decide) rfl (fun b => Nat.le_of_ble_eq_true rfl) (fun x sz hX => ?_)
  have X := hX.1
  unfold m_isSmall at h
  show V x 1 Km 0 0 sz g 0 [(0, vI l0)] []
  refine V_iload_n X dX10_isSmall_0 0 rfl ?_
  refine V_bipush X dX10_isSmall_1 (by decide) ?_
  refine V_icmp_lt (tgt := 16) X dX10_isSmall_3 (by decide) h (fun h => ?_) (fun h => ?_)
  · refine V_iconst X dX10_isSmall_16 ?_
    have hr := Option.some.inj h
    subst hr
    exact V_end_z hX (Or.inl rfl) rfl dX10_isSmall_17
  · refine V_iload_n X dX10_isSmall_6 0 rfl ?_
    refine V_bipush X dX10_isSmall_7 (by decide) ?_
    refine V_icmp_gt (tgt := 16) X dX10_isSmall_9 (by decide) h (fun h => ?_) (fun h => ?_)
    · refine V_iconst X dX10_isSmall_16 ?_
      have hr := Option.some.inj h
      subst hr
      exact V_end_z hX (Or.inl rfl) rfl dX10_isSmall_17
    · refine V_iconst X dX10_isSmall_12 ?_
      refine V_goto (tgt := 17) X dX10_isSmall_13 (by decide) ?_
      have hr := Option.some.inj h
      subst hr
      exact V_end_z hX (Or.inr rfl) rfl dX10_isSmall_17
set_option maxHeartbeats 4000000 in
theorem con_m_isDigit (g : GS) (l0 : Int) (r : Int) (h : m_isDigit l0 = some r) : Con yX10_isDigit cX10_isDigit 1 (some .boolean) 1 12 Km (fun b => [vI l0]) g (fun _ => some (vI r)) g := by
  refine Con.of RX10 (by decide) rfl (fun b => Nat.le_of_ble_eq_true rfl) (fun x sz hX => ?_)
  have X := hX.1
  unfold m_isDigit at h
  show V x 1 Km 0 0 sz g 0 [(0, vI l0)] []
  refine V_iload_n X dX10_isDigit_0 0 rfl ?_
  refine V_bipush X dX10_isDigit_1 (by decide) ?_
  refine V_icmp_lt (tgt := 16) X dX10_isDigit_3 (by decide) h (fun h => ?_) (fun h => ?_)
  · refine V_iconst X dX10_isDigit_16 ?_
    have hr := Option.some.inj h
    subst hr
    exact V_end_z hX (Or.inl rfl) rfl dX10_isDigit_17
  · refine V_iload_n X dX10_isDigit_6 0 rfl ?_
    refine V_bipush X dX10_isDigit_7 (by decide) ?_
    refine V_icmp_gt (tgt := 16) X dX10_isDigit_9 (by decide) h (fun h => ?_) (fun h => ?_)
    · refine V_iconst X dX10_isDigit_16 ?_
      have hr := Option.some.inj h
      subst hr
      exact V_end_z hX (Or.inl rfl) rfl dX10_isDigit_17
    · refine V_iconst X dX10_isDigit_12 ?_
      refine V_goto (tgt := 17) X dX10_isDigit_13 (by decide) ?_
      have hr := Option.some.inj h
      subst hr
      exact V_end_z hX (Or.inr rfl) rfl dX10_isDigit_17
set_option maxHeartbeats 4000000 in
theorem con_m_word (N : Nat) (g : GS) (r : (Int × GS)) (h : m_word N g = some r) : Con yX10_word cX10_word 4 (some .int) 2 32 Km (fun b => [.ref (b + 0)]) g (fun _ => some (vI r.1)) r.2 := by
  refine Con.of RX10 (by decide) rfl (fun b => Nat.le_of_ble_eq_true rfl) (fun x sz hX => ?_)
  have X := hX.1
  have J67 : ∀ (g : GS) (l1 : Int) (l2 : Int), m_word_j67 N g l1 l2 = some r → V x 4 Km 0 0 sz g 67 [(1, vI l1), (2, vI l2)] [] := by
    intro g l1 l2 h
    unfold m_word_j67 at h
    refine V_iload_n X dX10_word_67 1 rfl ?_
    refine V_bipush X dX10_word_68 (by decide) ?_
    refine V_icmp_le (tgt := 77) X dX10_word_70 (by decide) h (fun h => ?_) (fun h => ?_)
    · refine V_iload_n X dX10_word_77 0 rfl ?_
      have hr := Option.some.inj h
      subst hr
      exact V_end_i hX rfl dX10_word_78
    · refine V_iconst X dX10_word_73 ?_
      refine V_goto (tgt := 78) X dX10_word_74 (by decide) ?_
      have hr := Option.some.inj h
      subst hr
      exact V_end_i hX rfl dX10_word_78
  have LL14 : ∀ (g : GS) (n : Nat) (s : (Int × Int × Int)) (e : (Int × Int)), loopN (fun s => m_word_b14 N g s.1 s.2.1 s.2.2) n s = some e → V x 4 Km 0 0 sz g 67 [(1, vI e.1), (2, vI e.2)] [] → V x 4 Km 0 0 sz g 14 [(0, .ref (xb x + 0)), (1, vI s.1), (2, vI s.2.1), (3, vI s.2.2)] [] := by
    intro g n s e
    refine loop_walk (P := fun s => V x 4 Km 0 0 sz g 14 [(0, .ref (xb x + 0)), (1, vI s.1), (2, vI s.2.1), (3, vI s.2.2)] []) (E := fun e => V x 4 Km 0 0 sz g 67 [(1, vI e.1), (2, vI e.2)] []) ?_ n s e
    clear e s n
    rintro ⟨l1, l2, l3⟩ q14 h hc14 he14
    replace h : m_word_b14 N g l1 l2 l3 = some q14 := h
    have J57 : ∀ (l2 : Int) (l3 : Int) (s0 : Int), m_word_j57 N g l2 l3 s0 = some q14 → V x 4 Km 0 0 sz g 57 [(0, .ref (xb x + 0)), (2, vI l2), (3, vI l3)] [vI s0] := by
      intro l2 l3 s0 h
      unfold m_word_j57 at h
      refine V_istore_n X dX10_word_57 (by decide) (L' := [(1, vI s0), (0, .ref (xb x + 0)), (2, vI l2), (3, vI l3)]) rfl ?_
      refine V_iinc X dX10_word_58 2 rfl (by decide) (L' := [(2, vI (l2 + 1)), (1, vI s0), (0, .ref (xb x + 0)), (3, vI l3)]) rfl ?_
      refine V_iinc X dX10_word_61 3 rfl (by decide) (L' := [(3, vI (l3 + 1)), (2, vI (l2 + 1)), (1, vI s0), (0, .ref (xb x + 0))]) rfl ?_
      refine V_goto (tgt := 14) X dX10_word_64 (by decide) ?_
      exact V_sub [3, 2, 1, 0] rfl (hc14 _ (Option.some.inj h).symm)
    unfold m_word_b14 at h
    show V x 4 Km 0 0 sz g 14 [(0, .ref (xb x + 0)), (1, vI l1), (2, vI l2), (3, vI l3)] []
    refine V_iload_n X dX10_word_14 3 rfl ?_
    refine V_aload_n X dX10_word_15 0 rfl ?_
    refine getX10 X (o := 0) (j := 3) rfl (by decide) q1551 (fv_0 rfl) dX10_word_16 ?_
    refine V_icmp_ge (tgt := 67) X dX10_word_19 (by decide) h (fun h => ?_) (fun h => ?_)
    · exact V_sub [1, 2] rfl (he14 _ (Option.some.inj h).symm)
    · refine V_aload_n X dX10_word_22 0 rfl ?_
      refine getX10 X (o := 0) (j := 9) rfl (by decide) q1557 (fv_1 (i := 2) rfl rfl) dX10_word_23 ?_
      refine V_iload_n X dX10_word_26 3 rfl ?_
      refine V_iald X (o := 2) (n := 600) rfl (by decide) dX10_word_27 h (fun v27 h => ?_)
      obtain ⟨c28, hc28, h⟩ := bind_some_eq h
      refine V_callS (As := [vI v27]) (rest := []) (s1 := [vI c28]) X (con_m_isSmall g v27 c28 hc28) gwX10_isSmall hdX10_isSmall (by decide) rfl rfl (Nat.le_of_ble_eq_true rfl) ⟨Nat.zero_le _, Nat.zero_le _⟩ dX10_word_28 rfl rfl ?_
      refine V_if_eq (tgt := 67) X dX10_word_31 (by decide) h (fun h => ?_) (fun h => ?_)
      · exact V_sub [1, 2] rfl (he14 _ (Option.some.inj h).symm)
      · refine V_iload_n X dX10_word_34 2 rfl ?_
        refine V_bipush X dX10_word_35 (by decide) ?_
        refine V_icmp_ge (tgt := 56) X dX10_word_37 (by decide) h (fun h => ?_) (fun h => ?_)
        · refine V_iconst X dX10_word_56 ?_
          exact V_sub [0, 2, 3] rfl (J57 _ _ _ h)
        · refine V_iload_n X dX10_word_40 1 rfl ?_
          refine V_iconst X dX10_word_41 ?_
          refine V_ishl X dX10_word_42 ?_
          refine V_aload_n X dX10_word_43 0 rfl ?_
          refine getX10 X (o := 0) (j := 9) rfl (by decide) q1557 (fv_1 (i := 2) rfl rfl) dX10_word_44 ?_
          refine V_iload_n X dX10_word_47 3 rfl ?_
          refine V_iald X (o := 2) (n := 600) rfl (by decide) dX10_word_48 h (fun v48 h => ?_)
          refine V_bipush X dX10_word_49 (by decide) ?_
          refine V_isub X dX10_word_51 ?_
          refine V_ior X dX10_word_52 ?_
          refine V_goto (tgt := 57) X dX10_word_53 (by decide) ?_
          exact V_sub [0, 2, 3] rfl (J57 _ _ _ h)
  unfold m_word at h
  show V x 4 Km 0 0 sz g 0 [(0, .ref (xb x + 0))] []
  refine V_aload_n X dX10_word_0 0 rfl ?_
  obtain ⟨c1, hc1, h⟩ := bind_some_eq h
  refine V_callV (As := []) (rest := []) (s1 := [vI c1.1]) (o := 0) X (con_m_here N g c1 hc1) gwX10_here hdX10_here (by decide) rfl (by decide) rfl rfl rfl (Nat.le_of_ble_eq_true rfl) ⟨Nat.zero_le _, Nat.zero_le _⟩ dX10_word_1 rfl rfl ?_
  refine V_pop X dX10_word_4 rfl ?_
  refine V_iconst X dX10_word_5 ?_
  refine V_istore_n X dX10_word_6 (by decide) (L' := [(1, vI 0), (0, .ref (xb x + 0))]) rfl ?_
  refine V_iconst X dX10_word_7 ?_
  refine V_istore_n X dX10_word_8 (by decide) (L' := [(2, vI 0), (1, vI 0), (0, .ref (xb x + 0))]) rfl ?_
  refine V_aload_n X dX10_word_9 2 rfl ?_
  refine getX10 X (o := 0) (j := 4) rfl (by decide) q1552 (fv_0 rfl) dX10_word_10 ?_
  refine V_istore_n X dX10_word_13 (by decide) (L' := [(3, vI (gI c1.2 904 0)), (2, vI 0), (1, vI 0), (0, .ref (xb x + 0))]) rfl ?_
  obtain ⟨t1, t1q, h⟩ := bind_some_eq h
  refine V_sub [3, 2, 1, 0] rfl (LL14 c1.2 N (0, 0, (gI c1.2 904 0)) _ t1q ?_)
  exact V_sub [0, 1] rfl (J67 _ _ _ h)
set_option maxHeartbeats 4000000 in
theorem con_m_of (N : Nat) (sa0 : Nat) (t0 : List Int) (ht0 : asc t0 ∧ t0.length < 1000) (g : GS) (r : Int) (h : m_of N t0 = some r) : ConE yX10_of cX10_of 3 (some .int) 6 200 Km (fun b => [.ref sa0]) (fun b => STR b sa0 t0) g (fun _ => some (vI r)) g := by
  refine ConE.of RX10 (by decide) rfl (fun b => Nat.le_of_ble_eq_true rfl) (fun x sz hX hE => ?_)
  have X := hX.1
  have LL4 : ∀  (n : Nat) (s : (Int × Int)) (e : Int), loopN (fun s => m_of_b4 N t0 s.1 s.2) n s = some e → (e = r) → V x 3 Km 0 0 sz g 4 [(0, .ref sa0), (1, vI s.1), (2, vI s.2)] [] := by
    intro  n s e
    refine loop_walk (P := fun s => V x 3 Km 0 0 sz g 4 [(0, .ref sa0), (1, vI s.1), (2, vI s.2)] []) (E := fun e => e = r) ?_ n s e
    clear e s n
    rintro ⟨l1, l2⟩ q4 h hc4 he4
    replace h : m_of_b4 N t0 l1 l2 = some q4 := h
    unfold m_of_b4 at h
    show V x 3 Km 0 0 sz g 4 [(0, .ref sa0), (1, vI l1), (2, vI l2)] []
    refine V_iload_n X dX10_of_4 2 rfl ?_
    refine V_aload_n X dX10_of_5 0 rfl ?_
    refine V_strlen X hE q1815 (by decide) (Nat.le_of_ble_eq_true rfl) ⟨Nat.zero_le _, Nat.zero_le _⟩ dX10_of_6 ?_
    refine V_icmp_ge (tgt := 31) X dX10_of_9 (by decide) h (fun h => ?_) (fun h => ?_)
    · obtain ⟨e1, h, e1q⟩ := outR_some h
      replace h := h.trans (congrArg some (he4 _ e1q))
      refine V_iload_n X dX10_of_31 1 rfl ?_
      have hr := Option.some.inj h
      subst hr
      exact V_end_i hX rfl dX10_of_32
    · refine V_iload_n X dX10_of_12 1 rfl ?_
      refine V_iconst X dX10_of_13 ?_
      refine V_ishl X dX10_of_14 ?_
      refine V_aload_n X dX10_of_15 0 rfl ?_
      refine V_iload_n X dX10_of_16 2 rfl ?_
      refine V_charAt X hE ht0 q1816 (by decide) (Nat.le_of_ble_eq_true rfl) ⟨Nat.zero_le _, Nat.zero_le _⟩ dX10_of_17 h (fun v17 h => ?_)
      refine V_bipush X dX10_of_20 (by decide) ?_
      refine V_isub X dX10_of_22 ?_
      refine V_ior X dX10_of_23 ?_
      refine V_istore_n X dX10_of_24 (by decide) (L' := [(1, vI (i_or (i_shl l1 5) (v17 - 96))), (0, .ref sa0), (2, vI l2)]) rfl ?_
      refine V_iinc X dX10_of_25 2 rfl (by decide) (L' := [(2, vI (l2 + 1)), (1, vI (i_or (i_shl l1 5) (v17 - 96))), (0, .ref sa0)]) rfl ?_
      refine V_goto (tgt := 4) X dX10_of_28 (by decide) ?_
      exact V_sub [2, 1, 0] rfl (hc4 _ (Option.some.inj h).symm)
  unfold m_of at h
  show V x 3 Km 0 0 sz g 0 [(0, .ref sa0)] []
  refine V_iconst X dX10_of_0 ?_
  refine V_istore_n X dX10_of_1 (by decide) (L' := [(1, vI 0), (0, .ref sa0)]) rfl ?_
  refine V_iconst X dX10_of_2 ?_
  refine V_istore_n X dX10_of_3 (by decide) (L' := [(2, vI 0), (1, vI 0), (0, .ref sa0)]) rfl ?_
  exact V_sub [2, 1, 0] rfl (LL4 N (0, 0) _ h rfl)
set_option maxHeartbeats 4000000 in
theorem con_m_pass (N : Nat) (g : GS) (r : GS) (h : m_pass N g = some r) : Con yX10_pass cX10_pass 1 none 2 32 Km (fun b => [.ref (b + 0)]) g (fun _ => none) r := by
  refine Con.of RX10 (by decide) rfl (fun b => Nat.le_of_ble_eq_true rfl) (fun x sz hX => ?_)
  have X := hX.1
  have LL0 : ∀  (n : Nat) (s : (GS)) (e : GS), loopN (fun s => m_pass_b0 N s) n s = some e → (e = r) → V x 1 Km 0 0 sz s 0 [(0, .ref (xb x + 0))] [] := by
    intro  n s e
    refine loop_walk (P := fun s => V x 1 Km 0 0 sz s 0 [(0, .ref (xb x + 0))] []) (E := fun e => e = r) ?_ n s e
    clear e s n
    rintro g q0 h hc0 he0
    replace h : m_pass_b0 N g = some q0 := h
    unfold m_pass_b0 at h
    show V x 1 Km 0 0 sz g 0 [(0, .ref (xb x + 0))] []
    refine V_aload_n X dX10_pass_0 0 rfl ?_
    refine getX10 X (o := 0) (j := 4) rfl (by decide) q1552 (fv_0 rfl) dX10_pass_1 ?_
    refine V_aload_n X dX10_pass_4 0 rfl ?_
    refine getX10 X (o := 0) (j := 3) rfl (by decide) q1551 (fv_0 rfl) dX10_pass_5 ?_
    refine V_icmp_ge (tgt := 39) X dX10_pass_8 (by decide) h (fun h => ?_) (fun h => ?_)
    · obtain ⟨e1, h, e1q⟩ := outR_some h
      replace h := h.trans (congrArg some (he0 _ e1q))
      have hr := Option.some.inj h
      subst hr
      exact V_end_v hX rfl dX10_pass_39
    · refine V_aload_n X dX10_pass_11 0 rfl ?_
      refine getX10 X (o := 0) (j := 9) rfl (by decide) q1557 (fv_1 (i := 2) rfl rfl) dX10_pass_12 ?_
      refine V_aload_n X dX10_pass_15 0 rfl ?_
      refine getX10 X (o := 0) (j := 4) rfl (by decide) q1552 (fv_0 rfl) dX10_pass_16 ?_
      refine V_iald X (o := 2) (n := 600) rfl (by decide) dX10_pass_19 h (fun v19 h => ?_)
      obtain ⟨c20, hc20, h⟩ := bind_some_eq h
      refine V_callS (As := [vI v19]) (rest := []) (s1 := [vI c20]) X (con_m_isSmall g v19 c20 hc20) gwX10_isSmall hdX10_isSmall (by decide) rfl rfl (Nat.le_of_ble_eq_true rfl) ⟨Nat.zero_le _, Nat.zero_le _⟩ dX10_pass_20 rfl rfl ?_
      refine V_if_eq (tgt := 39) X dX10_pass_23 (by decide) h (fun h => ?_) (fun h => ?_)
      · obtain ⟨e2, h, e2q⟩ := outR_some h
        replace h := h.trans (congrArg some (he0 _ e2q))
        have hr := Option.some.inj h
        subst hr
        exact V_end_v hX rfl dX10_pass_39
      · refine V_aload_n X dX10_pass_26 0 rfl ?_
        refine V_dup X dX10_pass_27 rfl ?_
        refine getX10 X (o := 0) (j := 4) rfl (by decide) q1552 (fv_0 rfl) dX10_pass_28 ?_
        refine V_iconst X dX10_pass_31 ?_
        refine V_iadd X dX10_pass_32 ?_
        refine putX10 X (o := 0) (j := 4) (a := ((gI g 904 0) + 1)) rfl (by decide) rfl rfl rfl q1552 dX10_pass_33 ?_
        refine V_goto (tgt := 0) X dX10_pass_36 (by decide) ?_
        exact V_sub [0] rfl (hc0 _ (Option.some.inj h).symm)
  unfold m_pass at h
  show V x 1 Km 0 0 sz g 0 [(0, .ref (xb x + 0))] []
  exact V_sub [0] rfl (LL0 N g _ h rfl)
set_option maxHeartbeats 4000000 in
theorem con_m_readNumber (N : Nat) (g : GS) (l1 : Int) (l2 : Int) (r : (Int × GS)) (h : m_readNumber N g l1 l2 = some r) : Con yX10_readNumber cX10_readNumber 6 (some .int) 2 34 Km (fun b => [.ref (b + 0), vI l1, vI l2]) g (fun _ => some (vI r.1)) r.2 := by
  refine Con.of RX10 (by decide) rfl (fun b => Nat.le_of_ble_eq_true rfl) (fun x sz hX => ?_)
  have X := hX.1
  have J126 : ∀ (g : GS) (l4 : Int), m_readNumber_j126 N g l4 = some r → V x 6 Km 0 0 sz g 126 [(0, .ref (xb x + 0)), (4, vI l4)] [] := by
    intro g l4 h
    unfold m_readNumber_j126 at h
    refine V_aload_n X dX10_readNumber_126 0 rfl ?_
    refine V_iconst X dX10_readNumber_127 ?_
    refine V_iload X dX10_readNumber_128 1 rfl ?_
    obtain ⟨c130, hc130, h⟩ := bind_some_eq h
    refine V_callV (As := [vI 2, vI l4]) (rest := []) (s1 := []) (o := 0) X (con_m_wrong g 2 l4 c130 hc130) gwX10_wrong hdX10_wrong (by decide) rfl (by decide) rfl rfl rfl (Nat.le_of_ble_eq_true rfl) ⟨Nat.zero_le _, Nat.zero_le _⟩ dX10_readNumber_130 rfl rfl ?_
    refine V_iconst X dX10_readNumber_133 ?_
    have hr := Option.some.inj h
    subst hr
    exact V_end_i hX rfl dX10_readNumber_134
  have J114 : ∀ (g : GS) (l1 : Int) (l2 : Int) (l4 : Int) (l5 : Int), m_readNumber_j114 N g l1 l2 l4 l5 = some r → V x 6 Km 0 0 sz g 114 [(0, .ref (xb x + 0)), (1, vI l1), (2, vI l2), (4, vI l4), (5, vI l5)] [] := by
    intro g l1 l2 l4 l5 h
    unfold m_readNumber_j114 at h
    refine V_iload X dX10_readNumber_114 4 rfl ?_
    refine V_iload_n X dX10_readNumber_116 1 rfl ?_
    refine V_icmp_lt (tgt := 126) X dX10_readNumber_117 (by decide) h (fun h => ?_) (fun h => ?_)
    · exact V_sub [0, 3] rfl (J126 _ _ h)
    · refine V_iload X dX10_readNumber_120 4 rfl ?_
      refine V_iload_n X dX10_readNumber_122 2 rfl ?_
      refine V_icmp_le (tgt := 135) X dX10_readNumber_123 (by decide) h (fun h => ?_) (fun h => ?_)
      · refine V_iload X dX10_readNumber_135 4 rfl ?_
        have hr := Option.some.inj h
        subst hr
        exact V_end_i hX rfl dX10_readNumber_137
      · exact V_sub [0, 3] rfl (J126 _ _ h)
  have LL41 : ∀ (l1 : Int) (l2 : Int) (l4 : Int) (n : Nat) (s : (GS × Int)) (e : (GS × Int)), loopN (fun s => m_readNumber_b41 N l1 l2 l4 s.1 s.2) n s = some e → V x 6 Km 0 0 sz e.1 114 [(0, .ref (xb x + 0)), (1, vI l1), (2, vI l2), (4, vI l4), (5, vI e.2)] [] → V x 6 Km 0 0 sz s.1 41 [(0, .ref (xb x + 0)), (1, vI l1), (2, vI l2), (4, vI l4), (5, vI s.2)] [] := by
    intro l1 l2 l4 n s e
    refine loop_walk (P := fun s => V x 6 Km 0 0 sz s.1 41 [(0, .ref (xb x + 0)), (1, vI l1), (2, vI l2), (4, vI l4), (5, vI s.2)] []) (E := fun e => V x 6 Km 0 0 sz e.1 114 [(0, .ref (xb x + 0)), (1, vI l1), (2, vI l2), (4, vI l4), (5, vI e.2)] []) ?_ n s e
    clear e s n
    rintro ⟨g, l5⟩ q41 h hc41 he41
    replace h : m_readNumber_b41 N l1 l2 l4 g l5 = some q41 := h
    have J99 : ∀ (g : GS) (s0 : Int), m_readNumber_j99 N g l1 l2 l4 s0 = some q41 → V x 6 Km 0 0 sz g 99 [(0, .ref (xb x + 0)), (1, vI l1), (2, vI l2), (4, vI l4)] [vI s0] := by
      intro g s0 h
      unfold m_readNumber_j99 at h
      refine V_istore X dX10_readNumber_99 (by decide) (L' := [(5, vI s0), (0, .ref (xb x + 0)), (1, vI l1), (2, vI l2), (4, vI l4)]) rfl ?_
      refine V_aload_n X dX10_readNumber_101 1 rfl ?_
      refine V_dup X dX10_readNumber_102 rfl ?_
      refine getX10 X (o := 0) (j := 4) rfl (by decide) q1552 (fv_0 rfl) dX10_readNumber_103 ?_
      refine V_iconst X dX10_readNumber_106 ?_
      refine V_iadd X dX10_readNumber_107 ?_
      refine putX10 X (o := 0) (j := 4) (a := ((gI g 904 0) + 1)) rfl (by decide) rfl rfl rfl q1552 dX10_readNumber_108 ?_
      refine V_goto (tgt := 41) X dX10_readNumber_111 (by decide) ?_
      exact V_sub [1, 2, 3, 4, 0] rfl (hc41 _ (Option.some.inj h).symm)
    unfold m_readNumber_b41 at h
    show V x 6 Km 0 0 sz g 41 [(0, .ref (xb x + 0)), (1, vI l1), (2, vI l2), (4, vI l4), (5, vI l5)] []
    refine V_aload_n X dX10_readNumber_41 0 rfl ?_
    refine getX10 X (o := 0) (j := 4) rfl (by decide) q1552 (fv_0 rfl) dX10_readNumber_42 ?_
    refine V_aload_n X dX10_readNumber_45 0 rfl ?_
    refine getX10 X (o := 0) (j := 3) rfl (by decide) q1551 (fv_0 rfl) dX10_readNumber_46 ?_
    refine V_icmp_ge (tgt := 114) X dX10_readNumber_49 (by decide) h (fun h => ?_) (fun h => ?_)
    · exact V_sub [0, 1, 2, 3, 4] rfl (he41 _ (Option.some.inj h).symm)
    · refine V_aload_n X dX10_readNumber_52 0 rfl ?_
      refine getX10 X (o := 0) (j := 9) rfl (by decide) q1557 (fv_1 (i := 2) rfl rfl) dX10_readNumber_53 ?_
      refine V_aload_n X dX10_readNumber_56 0 rfl ?_
      refine getX10 X (o := 0) (j := 4) rfl (by decide) q1552 (fv_0 rfl) dX10_readNumber_57 ?_
      refine V_iald X (o := 2) (n := 600) rfl (by decide) dX10_readNumber_60 h (fun v60 h => ?_)
      obtain ⟨c61, hc61, h⟩ := bind_some_eq h
      refine V_callS (As := [vI v60]) (rest := []) (s1 := [vI c61]) X (con_m_isDigit g v60 c61 hc61) gwX10_isDigit hdX10_isDigit (by decide) rfl rfl (Nat.le_of_ble_eq_true rfl) ⟨Nat.zero_le _, Nat.zero_le _⟩ dX10_readNumber_61 rfl rfl ?_
      refine V_if_eq (tgt := 114) X dX10_readNumber_64 (by decide) h (fun h => ?_) (fun h => ?_)
      · exact V_sub [0, 1, 2, 3, 4] rfl (he41 _ (Option.some.inj h).symm)
      · refine V_iload X dX10_readNumber_67 4 rfl ?_
        refine V_sipush X dX10_readNumber_69 (by decide) ?_
        refine V_icmp_le (tgt := 81) X dX10_readNumber_72 (by decide) h (fun h => ?_) (fun h => ?_)
        · refine V_bipush X dX10_readNumber_81 (by decide) ?_
          refine V_iload X dX10_readNumber_83 4 rfl ?_
          refine V_imul X dX10_readNumber_85 ?_
          refine V_aload_n X dX10_readNumber_86 0 rfl ?_
          refine getX10 X (o := 0) (j := 9) rfl (by decide) q1557 (fv_1 (i := 2) rfl rfl) dX10_readNumber_87 ?_
          refine V_aload_n X dX10_readNumber_90 0 rfl ?_
          refine getX10 X (o := 0) (j := 4) rfl (by decide) q1552 (fv_0 rfl) dX10_readNumber_91 ?_
          refine V_iald X (o := 2) (n := 600) rfl (by decide) dX10_readNumber_94 h (fun v94 h => ?_)
          refine V_iadd X dX10_readNumber_95 ?_
          refine V_bipush X dX10_readNumber_96 (by decide) ?_
          refine V_isub X dX10_readNumber_98 ?_
          exact V_sub [0, 1, 2, 3] rfl (J99 _ _ h)
        · refine V_sipush X dX10_readNumber_75 (by decide) ?_
          refine V_goto (tgt := 99) X dX10_readNumber_78 (by decide) ?_
          exact V_sub [0, 1, 2, 3] rfl (J99 _ _ h)
  unfold m_readNumber at h
  show V x 6 Km 0 0 sz g 0 [(0, .ref (xb x + 0)), (1, vI l1), (2, vI l2)] []
  refine V_aload_n X dX10_readNumber_0 0 rfl ?_
  obtain ⟨c1, hc1, h⟩ := bind_some_eq h
  refine V_callV (As := []) (rest := []) (s1 := [vI c1]) (o := 0) X (con_m_fine g c1 hc1) gwX10_fine hdX10_fine (by decide) rfl (by decide) rfl rfl rfl (Nat.le_of_ble_eq_true rfl) ⟨Nat.zero_le _, Nat.zero_le _⟩ dX10_readNumber_1 rfl rfl ?_
  refine V_if_ne (tgt := 9) X dX10_readNumber_4 (by decide) h (fun h => ?_) (fun h => ?_)
  · refine V_aload_n X dX10_readNumber_9 0 rfl ?_
    obtain ⟨c10, hc10, h⟩ := bind_some_eq h
    refine V_callV (As := []) (rest := []) (s1 := [vI c10.1]) (o := 0) X (con_m_here N g c10 hc10) gwX10_here hdX10_here (by decide) rfl (by decide) rfl rfl rfl (Nat.le_of_ble_eq_true rfl) ⟨Nat.zero_le _, Nat.zero_le _⟩ dX10_readNumber_10 rfl rfl ?_
    refine V_istore_n X dX10_readNumber_13 (by decide) (L' := [(3, vI c10.1), (0, .ref (xb x + 0)), (1, vI l1), (2, vI l2)]) rfl ?_
    refine V_aload_n X dX10_readNumber_14 1 rfl ?_
    refine getX10 X (o := 0) (j := 4) rfl (by decide) q1552 (fv_0 rfl) dX10_readNumber_15 ?_
    refine V_istore X dX10_readNumber_18 (by decide) (L' := [(4, vI (gI c10.2 904 0)), (3, vI c10.1), (0, .ref (xb x + 0)), (1, vI l1), (2, vI l2)]) rfl ?_
    refine V_iconst X dX10_readNumber_20 ?_
    refine V_istore X dX10_readNumber_21 (by decide) (L' := [(5, vI 0), (4, vI (gI c10.2 904 0)), (3, vI c10.1), (0, .ref (xb x + 0)), (1, vI l1), (2, vI l2)]) rfl ?_
    refine V_iload_n X dX10_readNumber_23 2 rfl ?_
    obtain ⟨c24, hc24, h⟩ := bind_some_eq h
    refine V_callS (As := [vI c10.1]) (rest := []) (s1 := [vI c24]) X (con_m_isDigit c10.2 c10.1 c24 hc24) gwX10_isDigit hdX10_isDigit (by decide) rfl rfl (Nat.le_of_ble_eq_true rfl) ⟨Nat.zero_le _, Nat.zero_le _⟩ dX10_readNumber_24 rfl rfl ?_
    refine V_if_ne (tgt := 41) X dX10_readNumber_27 (by decide) h (fun h => ?_) (fun h => ?_)
    · obtain ⟨t1, t1q, h⟩ := bind_some_eq h
      refine V_sub [3, 4, 5, 1, 0] rfl (LL41 l1 l2 (gI c10.2 904 0) N (c10.2, 0) _ t1q ?_)
      exact V_sub [0, 1, 2, 3, 4] rfl (J114 _ _ _ _ _ h)
    · refine V_aload_n X dX10_readNumber_30 3 rfl ?_
      refine V_iconst X dX10_readNumber_31 ?_
      refine V_aload_n X dX10_readNumber_32 3 rfl ?_
      refine getX10 X (o := 0) (j := 4) rfl (by decide) q1552 (fv_0 rfl) dX10_readNumber_33 ?_
      obtain ⟨c36, hc36, h⟩ := bind_some_eq h
      refine V_callV (As := [vI 1, vI (gI c10.2 904 0)]) (rest := []) (s1 := []) (o := 0) X (con_m_wrong c10.2 1 (gI c10.2 904 0) c36 hc36) gwX10_wrong hdX10_wrong (by decide) rfl (by decide) rfl rfl rfl (Nat.le_of_ble_eq_true rfl) ⟨Nat.zero_le _, Nat.zero_le _⟩ dX10_readNumber_36 rfl rfl ?_
      refine V_iconst X dX10_readNumber_39 ?_
      have hr := Option.some.inj h
      subst hr
      exact V_end_i hX rfl dX10_readNumber_40
  · refine V_iconst X dX10_readNumber_7 ?_
    have hr := Option.some.inj h
    subst hr
    exact V_end_i hX rfl dX10_readNumber_8
set_option maxHeartbeats 4000000 in
theorem con_m_sign (N : Nat) (g : GS) (l1 : Int) (r : GS) (h : m_sign N g l1 = some r) : Con yX10_sign cX10_sign 2 none 2 34 Km (fun b => [.ref (b + 0), vI l1]) g (fun _ => none) r := by
  refine Con.of RX10 (by decide) rfl (fun b => Nat.le_of_ble_eq_true rfl) (fun x sz hX => ?_)
  have X := hX.1
  have J24 : ∀ (g : GS), m_sign_j24 N g = some r → V x 2 Km 0 0 sz g 24 [(0, .ref (xb x + 0))] [] := by
    intro g h
    unfold m_sign_j24 at h
    refine V_aload_n X dX10_sign_24 0 rfl ?_
    obtain ⟨c25, hc25, h⟩ := bind_some_eq h
    refine V_callV (As := []) (rest := []) (s1 := [vI c25]) (o := 0) X (con_m_fine g c25 hc25) gwX10_fine hdX10_fine (by decide) rfl (by decide) rfl rfl rfl (Nat.le_of_ble_eq_true rfl) ⟨Nat.zero_le _, Nat.zero_le _⟩ dX10_sign_25 rfl rfl ?_
    refine V_if_eq (tgt := 41) X dX10_sign_28 (by decide) h (fun h => ?_) (fun h => ?_)
    · have hr := Option.some.inj h
      subst hr
      exact V_end_v hX rfl dX10_sign_41
    · refine V_aload_n X dX10_sign_31 0 rfl ?_
      refine V_dup X dX10_sign_32 rfl ?_
      refine getX10 X (o := 0) (j := 4) rfl (by decide) q1552 (fv_0 rfl) dX10_sign_33 ?_
      refine V_iconst X dX10_sign_36 ?_
      refine V_iadd X dX10_sign_37 ?_
      refine putX10 X (o := 0) (j := 4) (a := ((gI g 904 0) + 1)) rfl (by decide) rfl rfl rfl q1552 dX10_sign_38 ?_
      have hr := Option.some.inj h
      subst hr
      exact V_end_v hX rfl dX10_sign_41
  unfold m_sign at h
  show V x 2 Km 0 0 sz g 0 [(0, .ref (xb x + 0)), (1, vI l1)] []
  refine V_aload_n X dX10_sign_0 0 rfl ?_
  obtain ⟨c1, hc1, h⟩ := bind_some_eq h
  refine V_callV (As := []) (rest := []) (s1 := [vI c1]) (o := 0) X (con_m_fine g c1 hc1) gwX10_fine hdX10_fine (by decide) rfl (by decide) rfl rfl rfl (Nat.le_of_ble_eq_true rfl) ⟨Nat.zero_le _, Nat.zero_le _⟩ dX10_sign_1 rfl rfl ?_
  refine V_if_eq (tgt := 24) X dX10_sign_4 (by decide) h (fun h => ?_) (fun h => ?_)
  · exact V_sub [0] rfl (J24 _ h)
  · refine V_aload_n X dX10_sign_7 0 rfl ?_
    obtain ⟨c8, hc8, h⟩ := bind_some_eq h
    refine V_callV (As := []) (rest := []) (s1 := [vI c8.1]) (o := 0) X (con_m_here N g c8 hc8) gwX10_here hdX10_here (by decide) rfl (by decide) rfl rfl rfl (Nat.le_of_ble_eq_true rfl) ⟨Nat.zero_le _, Nat.zero_le _⟩ dX10_sign_8 rfl rfl ?_
    refine V_iload_n X dX10_sign_11 1 rfl ?_
    refine V_icmp_eq (tgt := 24) X dX10_sign_12 (by decide) h (fun h => ?_) (fun h => ?_)
    · exact V_sub [0] rfl (J24 _ h)
    · refine V_aload_n X dX10_sign_15 0 rfl ?_
      refine V_iconst X dX10_sign_16 ?_
      refine V_aload_n X dX10_sign_17 0 rfl ?_
      refine getX10 X (o := 0) (j := 4) rfl (by decide) q1552 (fv_0 rfl) dX10_sign_18 ?_
      obtain ⟨c21, hc21, h⟩ := bind_some_eq h
      refine V_callV (As := [vI 1, vI (gI c8.2 904 0)]) (rest := []) (s1 := []) (o := 0) X (con_m_wrong c8.2 1 (gI c8.2 904 0) c21 hc21) gwX10_wrong hdX10_wrong (by decide) rfl (by decide) rfl rfl rfl (Nat.le_of_ble_eq_true rfl) ⟨Nat.zero_le _, Nat.zero_le _⟩ dX10_sign_21 rfl rfl ?_
      exact V_sub [0] rfl (J24 _ h)
set_option maxHeartbeats 4000000 in
theorem con_m_isMore (N : Nat) (g : GS) (r : (Int × GS)) (h : m_isMore N g = some r) : Con yX10_isMore cX10_isMore 1 (some .boolean) 2 32 Km (fun b => [.ref (b + 0)]) g (fun _ => some (vI r.1)) r.2 := by
  refine Con.of RX10 (by decide) rfl (fun b => Nat.le_of_ble_eq_true rfl) (fun x sz hX => ?_)
  have X := hX.1
  unfold m_isMore at h
  show V x 1 Km 0 0 sz g 0 [(0, .ref (xb x + 0))] []
  refine V_aload_n X dX10_isMore_0 0 rfl ?_
  obtain ⟨c1, hc1, h⟩ := bind_some_eq h
  refine V_callV (As := []) (rest := []) (s1 := [vI c1.1]) (o := 0) X (con_m_here N g c1 hc1) gwX10_here hdX10_here (by decide) rfl (by decide) rfl rfl rfl (Nat.le_of_ble_eq_true rfl) ⟨Nat.zero_le _, Nat.zero_le _⟩ dX10_isMore_1 rfl rfl ?_
  refine V_pop X dX10_isMore_4 rfl ?_
  refine V_aload_n X dX10_isMore_5 0 rfl ?_
  refine getX10 X (o := 0) (j := 4) rfl (by decide) q1552 (fv_0 rfl) dX10_isMore_6 ?_
  refine V_aload_n X dX10_isMore_9 0 rfl ?_
  refine getX10 X (o := 0) (j := 3) rfl (by decide) q1551 (fv_0 rfl) dX10_isMore_10 ?_
  refine V_icmp_ge (tgt := 20) X dX10_isMore_13 (by decide) h (fun h => ?_) (fun h => ?_)
  · refine V_iconst X dX10_isMore_20 ?_
    have hr := Option.some.inj h
    subst hr
    exact V_end_z hX (Or.inl rfl) rfl dX10_isMore_21
  · refine V_iconst X dX10_isMore_16 ?_
    refine V_goto (tgt := 21) X dX10_isMore_17 (by decide) ?_
    have hr := Option.some.inj h
    subst hr
    exact V_end_z hX (Or.inr rfl) rfl dX10_isMore_21
set_option maxHeartbeats 4000000 in
theorem con_m_begins (g : GS) (l1 : Int) (r : GS) (h : m_begins g l1 = some r) : Con yX10_begins cX10_begins 2 none 1 12 Km (fun b => [.ref (b + 0), vI l1]) g (fun _ => none) r := by
  refine Con.of RX10 (by decide) rfl (fun b => Nat.le_of_ble_eq_true rfl) (fun x sz hX => ?_)
  have X := hX.1
  unfold m_begins at h
  show V x 2 Km 0 0 sz g 0 [(0, .ref (xb x + 0)), (1, vI l1)] []
  refine V_aload_n X dX10_begins_0 0 rfl ?_
  refine V_iconst X dX10_begins_1 ?_
  refine putX10 X (o := 0) (j := 2) (a := 0) rfl (by decide) rfl rfl rfl q1550 dX10_begins_2 ?_
  refine V_aload_n X dX10_begins_5 0 rfl ?_
  refine V_iconst X dX10_begins_6 ?_
  refine putX10 X (o := 0) (j := 8) (a := (-1)) rfl (by decide) rfl rfl rfl q1556 dX10_begins_7 ?_
  refine V_aload_n X dX10_begins_10 0 rfl ?_
  refine V_iload_n X dX10_begins_11 1 rfl ?_
  refine putX10 X (o := 0) (j := 3) (a := l1) rfl (by decide) rfl rfl rfl q1551 dX10_begins_12 ?_
  refine V_aload_n X dX10_begins_15 0 rfl ?_
  refine V_iconst X dX10_begins_16 ?_
  refine putX10 X (o := 0) (j := 4) (a := 0) rfl (by decide) rfl rfl rfl q1552 dX10_begins_17 ?_
  refine V_aload_n X dX10_begins_20 0 rfl ?_
  refine V_iconst X dX10_begins_21 ?_
  refine putX10 X (o := 0) (j := 5) (a := (-1)) rfl (by decide) rfl rfl rfl q1553 dX10_begins_22 ?_
  refine V_aload_n X dX10_begins_25 0 rfl ?_
  refine V_iconst X dX10_begins_26 ?_
  refine putX10 X (o := 0) (j := 7) (a := 0) rfl (by decide) rfl rfl rfl q1555 dX10_begins_27 ?_
  have hr := Option.some.inj h
  subst hr
  exact V_end_v hX rfl dX10_begins_30
set_option maxHeartbeats 4000000 in
theorem con_m_result (g : GS) (l1 : Int) (r : (Int × GS)) (h : m_result g l1 = some r) : Con yX10_result cX10_result 2 (some .int) 2 32 Km (fun b => [.ref (b + 0), vI l1]) g (fun _ => some (vI r.1)) r.2 := by
  refine Con.of RX10 (by decide) rfl (fun b => Nat.le_of_ble_eq_true rfl) (fun x sz hX => ?_)
  have X := hX.1
  unfold m_result at h
  show V x 2 Km 0 0 sz g 0 [(0, .ref (xb x + 0)), (1, vI l1)] []
  refine V_aload_n X dX10_result_0 0 rfl ?_
  refine V_aload_n X dX10_result_1 0 rfl ?_
  refine getX10 X (o := 0) (j := 5) rfl (by decide) q1553 (fv_0 rfl) dX10_result_2 ?_
  refine putX10 X (o := 0) (j := 8) (a := (gI g 905 0)) rfl (by decide) rfl rfl rfl q1556 dX10_result_5 ?_
  refine V_aload_n X dX10_result_8 0 rfl ?_
  obtain ⟨c9, hc9, h⟩ := bind_some_eq h
  refine V_callV (As := []) (rest := []) (s1 := [vI c9]) (o := 0) X (con_m_fine (sI g 908 0 (gI g 905 0)) c9 hc9) gwX10_fine hdX10_fine (by decide) rfl (by decide) rfl rfl rfl (Nat.le_of_ble_eq_true rfl) ⟨Nat.zero_le _, Nat.zero_le _⟩ dX10_result_9 rfl rfl ?_
  refine V_if_eq (tgt := 19) X dX10_result_12 (by decide) h (fun h => ?_) (fun h => ?_)
  · refine V_aload_n X dX10_result_19 0 rfl ?_
    refine getX10 X (o := 0) (j := 6) rfl (by decide) q1554 (fv_0 rfl) dX10_result_20 ?_
    refine V_bipush X dX10_result_23 (by decide) ?_
    refine V_isub X dX10_result_25 ?_
    have hr := Option.some.inj h
    subst hr
    exact V_end_i hX rfl dX10_result_26
  · refine V_iload_n X dX10_result_15 1 rfl ?_
    refine V_goto (tgt := 26) X dX10_result_16 (by decide) ?_
    have hr := Option.some.inj h
    subst hr
    exact V_end_i hX rfl dX10_result_26
set_option maxHeartbeats 4000000 in
theorem con_m_fault (g : GS) (r : (Int × GS)) (h : m_fault g = some r) : Con yX10_fault cX10_fault 1 (some .int) 1 12 Km (fun b => [.ref (b + 0)]) g (fun _ => some (vI r.1)) r.2 := by
  refine Con.of RX10 (by decide) rfl (fun b => Nat.le_of_ble_eq_true rfl) (fun x sz hX => ?_)
  have X := hX.1
  unfold m_fault at h
  show V x 1 Km 0 0 sz g 0 [(0, .ref (xb x + 0))] []
  refine V_aload_n X dX10_fault_0 0 rfl ?_
  refine V_iconst X dX10_fault_1 ?_
  refine putX10 X (o := 0) (j := 0) (a := 0) rfl (by decide) rfl rfl rfl q1548 dX10_fault_2 ?_
  refine V_aload_n X dX10_fault_5 0 rfl ?_
  refine getX10 X (o := 0) (j := 8) rfl (by decide) q1556 (fv_0 rfl) dX10_fault_6 ?_
  have hr := Option.some.inj h
  subst hr
  exact V_end_i hX rfl dX10_fault_9
set_option maxHeartbeats 4000000 in
theorem con_m_readThings (N : Nat) (g : GS) (l1 : Int) (r : GS) (h : m_readThings N g l1 = some r) : Con yX10_readThings cX10_readThings 4 none 7 222 Km (fun b => [.ref (b + 0), vI l1]) g (fun _ => none) r := by
  refine Con.of RX10 (by decide) rfl (fun b => Nat.le_of_ble_eq_true rfl) (fun x sz hX => ?_)
  have X := hX.1
  have LL235 : ∀ (l2 : Int) (n : Nat) (s : (GS × Int)) (e : (GS)), loopN (fun s => m_readThings_b235 N l2 s.1 s.2) n s = some e → V x 4 Km 0 0 sz e 261 [(0, .ref (xb x + 0))] [] → V x 4 Km 0 0 sz s.1 235 [(0, .ref (xb x + 0)), (2, vI l2), (3, vI s.2)] [] := by
    intro l2 n s e
    refine loop_walk (P := fun s => V x 4 Km 0 0 sz s.1 235 [(0, .ref (xb x + 0)), (2, vI l2), (3, vI s.2)] []) (E := fun e => V x 4 Km 0 0 sz e 261 [(0, .ref (xb x + 0))] []) ?_ n s e
    clear e s n
    rintro ⟨g, l3⟩ q235 h hc235 he235
    replace h : m_readThings_b235 N l2 g l3 = some q235 := h
    unfold m_readThings_b235 at h
    show V x 4 Km 0 0 sz g 235 [(0, .ref (xb x + 0)), (2, vI l2), (3, vI l3)] []
    refine V_iload_n X dX10_readThings_235 2 rfl ?_
    refine V_iconst X dX10_readThings_236 ?_
    refine V_icmp_ge (tgt := 261) X dX10_readThings_237 (by decide) h (fun h => ?_) (fun h => ?_)
    · exact V_sub [0] rfl (he235 _ (Option.some.inj h).symm)
    · refine V_aload_n X dX10_readThings_240 0 rfl ?_
      refine getX10 X (o := 0) (j := 15) rfl (by decide) q1563 (fv_1 (i := 8) rfl rfl) dX10_readThings_241 ?_
      refine V_iload_n X dX10_readThings_244 1 rfl ?_
      refine V_iload_n X dX10_readThings_245 2 rfl ?_
      refine V_iadd X dX10_readThings_246 ?_
      refine V_aload_n X dX10_readThings_247 0 rfl ?_
      refine V_iconst X dX10_readThings_248 ?_
      refine V_bipush X dX10_readThings_249 (by decide) ?_
      obtain ⟨c251, hc251, h⟩ := bind_some_eq h
      refine V_callV (As := [vI 0, vI 16]) (rest := [vI (l2 + l3), .ref (xb x + 8)]) (s1 := [vI c251.1, vI (l2 + l3), .ref (xb x + 8)]) (o := 0) X (con_m_readNumber N g 0 16 c251 hc251) gwX10_readNumber hdX10_readNumber (by decide) rfl (by decide) rfl rfl rfl (Nat.le_of_ble_eq_true rfl) ⟨Nat.zero_le _, Nat.zero_le _⟩ dX10_readThings_251 rfl rfl ?_
      refine V_iast X (o := 8) (n := 16) rfl (by decide) dX10_readThings_254 h (fun g254 h => ?_)
      refine V_iinc X dX10_readThings_255 2 rfl (by decide) (L' := [(3, vI (l3 + 1)), (0, .ref (xb x + 0)), (2, vI l2)]) rfl ?_
      refine V_goto (tgt := 235) X dX10_readThings_258 (by decide) ?_
      exact V_sub [1, 2, 0] rfl (hc235 _ (Option.some.inj h).symm)
  unfold m_readThings at h
  show V x 4 Km 0 0 sz g 0 [(0, .ref (xb x + 0)), (1, vI l1)] []
  refine V_iload_n X dX10_readThings_0 1 rfl ?_
  obtain ⟨sa1_, hksa1_, hssa1_⟩ := (xok_sf X).str 20 (by decide) q1811
  replace hssa1_ : STR (xb x) sa1_ tx_person x.1.2.2.2.2.1 x.1.2.2.2.2.1.heap := hssa1_
  refine V_ldcS X hksa1_ dX10_readThings_1 ?_
  obtain ⟨c3, hc3, h⟩ := bind_some_eq h
  refine V_callSE (As := [.ref sa1_]) (rest := [vI l1]) (s1 := [vI c3, vI l1]) X (con_m_of N sa1_ tx_person as_person g c3 hc3) STR.blind (str_on X hssa1_) gwX10_of hdX10_of (by decide) rfl rfl (Nat.le_of_ble_eq_true rfl) ⟨Nat.zero_le _, Nat.zero_le _⟩ dX10_readThings_3 rfl rfl ?_
  refine V_icmp_ne (tgt := 38) X dX10_readThings_6 (by decide) h (fun h => ?_) (fun h => ?_)
  · refine V_iload_n X dX10_readThings_38 1 rfl ?_
    obtain ⟨sa39_, hksa39_, hssa39_⟩ := (xok_sf X).str 21 (by decide) q1817
    replace hssa39_ : STR (xb x) sa39_ tx_deed x.1.2.2.2.2.1 x.1.2.2.2.2.1.heap := hssa39_
    refine V_ldcSw X hksa39_ dX10_readThings_39 ?_
    obtain ⟨c42, hc42, h⟩ := bind_some_eq h
    refine V_callSE (As := [.ref sa39_]) (rest := [vI l1]) (s1 := [vI c42, vI l1]) X (con_m_of N sa39_ tx_deed as_deed g c42 hc42) STR.blind (str_on X hssa39_) gwX10_of hdX10_of (by decide) rfl rfl (Nat.le_of_ble_eq_true rfl) ⟨Nat.zero_le _, Nat.zero_le _⟩ dX10_readThings_42 rfl rfl ?_
    refine V_icmp_ne (tgt := 135) X dX10_readThings_45 (by decide) h (fun h => ?_) (fun h => ?_)
    · refine V_iload_n X dX10_readThings_135 1 rfl ?_
      obtain ⟨sa136_, hksa136_, hssa136_⟩ := (xok_sf X).str 22 (by decide) q1818
      replace hssa136_ : STR (xb x) sa136_ tx_board x.1.2.2.2.2.1 x.1.2.2.2.2.1.heap := hssa136_
      refine V_ldcSw X hksa136_ dX10_readThings_136 ?_
      obtain ⟨c139, hc139, h⟩ := bind_some_eq h
      refine V_callSE (As := [.ref sa136_]) (rest := [vI l1]) (s1 := [vI c139, vI l1]) X (con_m_of N sa136_ tx_board as_board g c139 hc139) STR.blind (str_on X hssa136_) gwX10_of hdX10_of (by decide) rfl rfl (Nat.le_of_ble_eq_true rfl) ⟨Nat.zero_le _, Nat.zero_le _⟩ dX10_readThings_139 rfl rfl ?_
      refine V_icmp_ne (tgt := 174) X dX10_readThings_142 (by decide) h (fun h => ?_) (fun h => ?_)
      · refine V_iload_n X dX10_readThings_174 1 rfl ?_
        obtain ⟨sa175_, hksa175_, hssa175_⟩ := (xok_sf X).str 23 (by decide) q1819
        replace hssa175_ : STR (xb x) sa175_ tx_nut x.1.2.2.2.2.1 x.1.2.2.2.2.1.heap := hssa175_
        refine V_ldcSw X hksa175_ dX10_readThings_175 ?_
        obtain ⟨c178, hc178, h⟩ := bind_some_eq h
        refine V_callSE (As := [.ref sa175_]) (rest := [vI l1]) (s1 := [vI c178, vI l1]) X (con_m_of N sa175_ tx_nut as_nut g c178 hc178) STR.blind (str_on X hssa175_) gwX10_of hdX10_of (by decide) rfl rfl (Nat.le_of_ble_eq_true rfl) ⟨Nat.zero_le _, Nat.zero_le _⟩ dX10_readThings_178 rfl rfl ?_
        refine V_icmp_ne (tgt := 213) X dX10_readThings_181 (by decide) h (fun h => ?_) (fun h => ?_)
        · refine V_iconst X dX10_readThings_213 ?_
          refine V_aload_n X dX10_readThings_214 0 rfl ?_
          refine getX10 X (o := 0) (j := 31) rfl (by decide) q1579 (fv_0 rfl) dX10_readThings_215 ?_
          refine V_imul X dX10_readThings_218 ?_
          refine V_istore_n X dX10_readThings_219 (by decide) (L' := [(2, vI (4 * (gI g 931 0))), (0, .ref (xb x + 0)), (1, vI l1)]) rfl ?_
          refine V_aload_n X dX10_readThings_220 1 rfl ?_
          refine getX10 X (o := 0) (j := 15) rfl (by decide) q1563 (fv_1 (i := 8) rfl rfl) dX10_readThings_221 ?_
          refine V_iload_n X dX10_readThings_224 0 rfl ?_
          refine V_aload_n X dX10_readThings_225 1 rfl ?_
          refine V_iconst X dX10_readThings_226 ?_
          refine V_bipush X dX10_readThings_227 (by decide) ?_
          obtain ⟨c229, hc229, h⟩ := bind_some_eq h
          refine V_callV (As := [vI 1, vI 16]) (rest := [vI (4 * (gI g 931 0)), .ref (xb x + 8)]) (s1 := [vI c229.1, vI (4 * (gI g 931 0)), .ref (xb x + 8)]) (o := 0) X (con_m_readNumber N g 1 16 c229 hc229) gwX10_readNumber hdX10_readNumber (by decide) rfl (by decide) rfl rfl rfl (Nat.le_of_ble_eq_true rfl) ⟨Nat.zero_le _, Nat.zero_le _⟩ dX10_readThings_229 rfl rfl ?_
          refine V_iast X (o := 8) (n := 16) rfl (by decide) dX10_readThings_232 h (fun g232 h => ?_)
          refine V_iconst X dX10_readThings_233 ?_
          refine V_istore_n X dX10_readThings_234 (by decide) (L' := [(3, vI 1), (2, vI (4 * (gI g 931 0))), (0, .ref (xb x + 0)), (1, vI l1)]) rfl ?_
          obtain ⟨t1, t1q, h⟩ := bind_some_eq h
          refine V_sub [2, 1, 0] rfl (LL235 (4 * (gI g 931 0)) N (g232, 1) _ t1q ?_)
          refine V_aload_n X dX10_readThings_261 0 rfl ?_
          refine V_dup X dX10_readThings_262 rfl ?_
          refine getX10 X (o := 0) (j := 31) rfl (by decide) q1579 (fv_0 rfl) dX10_readThings_263 ?_
          refine V_iconst X dX10_readThings_266 ?_
          refine V_iadd X dX10_readThings_267 ?_
          refine putX10 X (o := 0) (j := 31) (a := ((gI t1 931 0) + 1)) rfl (by decide) rfl rfl rfl q1579 dX10_readThings_268 ?_
          have hr := Option.some.inj h
          subst hr
          exact V_end_v hX rfl dX10_readThings_271
        · refine V_aload_n X dX10_readThings_184 0 rfl ?_
          refine getX10 X (o := 0) (j := 14) rfl (by decide) q1562 (fv_1 (i := 7) rfl rfl) dX10_readThings_185 ?_
          refine V_aload_n X dX10_readThings_188 0 rfl ?_
          refine getX10 X (o := 0) (j := 30) rfl (by decide) q1578 (fv_0 rfl) dX10_readThings_189 ?_
          refine V_aload_n X dX10_readThings_192 0 rfl ?_
          refine V_iconst X dX10_readThings_193 ?_
          refine V_bipush X dX10_readThings_194 (by decide) ?_
          obtain ⟨c196, hc196, h⟩ := bind_some_eq h
          refine V_callV (As := [vI 0, vI 15]) (rest := [vI (gI g 930 0), .ref (xb x + 7)]) (s1 := [vI c196.1, vI (gI g 930 0), .ref (xb x + 7)]) (o := 0) X (con_m_readNumber N g 0 15 c196 hc196) gwX10_readNumber hdX10_readNumber (by decide) rfl (by decide) rfl rfl rfl (Nat.le_of_ble_eq_true rfl) ⟨Nat.zero_le _, Nat.zero_le _⟩ dX10_readThings_196 rfl rfl ?_
          refine V_iast X (o := 7) (n := 8) rfl (by decide) dX10_readThings_199 h (fun g199 h => ?_)
          refine V_aload_n X dX10_readThings_200 0 rfl ?_
          refine V_dup X dX10_readThings_201 rfl ?_
          refine getX10 X (o := 0) (j := 30) rfl (by decide) q1578 (fv_0 rfl) dX10_readThings_202 ?_
          refine V_iconst X dX10_readThings_205 ?_
          refine V_iadd X dX10_readThings_206 ?_
          refine putX10 X (o := 0) (j := 30) (a := ((gI g199 930 0) + 1)) rfl (by decide) rfl rfl rfl q1578 dX10_readThings_207 ?_
          refine V_goto (tgt := 271) X dX10_readThings_210 (by decide) ?_
          have hr := Option.some.inj h
          subst hr
          exact V_end_v hX rfl dX10_readThings_271
      · refine V_aload_n X dX10_readThings_145 0 rfl ?_
        refine getX10 X (o := 0) (j := 13) rfl (by decide) q1561 (fv_1 (i := 6) rfl rfl) dX10_readThings_146 ?_
        refine V_aload_n X dX10_readThings_149 0 rfl ?_
        refine getX10 X (o := 0) (j := 29) rfl (by decide) q1577 (fv_0 rfl) dX10_readThings_150 ?_
        refine V_aload_n X dX10_readThings_153 0 rfl ?_
        refine V_iconst X dX10_readThings_154 ?_
        refine V_bipush X dX10_readThings_155 (by decide) ?_
        obtain ⟨c157, hc157, h⟩ := bind_some_eq h
        refine V_callV (As := [vI 1, vI 9]) (rest := [vI (gI g 929 0), .ref (xb x + 6)]) (s1 := [vI c157.1, vI (gI g 929 0), .ref (xb x + 6)]) (o := 0) X (con_m_readNumber N g 1 9 c157 hc157) gwX10_readNumber hdX10_readNumber (by decide) rfl (by decide) rfl rfl rfl (Nat.le_of_ble_eq_true rfl) ⟨Nat.zero_le _, Nat.zero_le _⟩ dX10_readThings_157 rfl rfl ?_
        refine V_iast X (o := 6) (n := 6) rfl (by decide) dX10_readThings_160 h (fun g160 h => ?_)
        refine V_aload_n X dX10_readThings_161 0 rfl ?_
        refine V_dup X dX10_readThings_162 rfl ?_
        refine getX10 X (o := 0) (j := 29) rfl (by decide) q1577 (fv_0 rfl) dX10_readThings_163 ?_
        refine V_iconst X dX10_readThings_166 ?_
        refine V_iadd X dX10_readThings_167 ?_
        refine putX10 X (o := 0) (j := 29) (a := ((gI g160 929 0) + 1)) rfl (by decide) rfl rfl rfl q1577 dX10_readThings_168 ?_
        refine V_goto (tgt := 271) X dX10_readThings_171 (by decide) ?_
        have hr := Option.some.inj h
        subst hr
        exact V_end_v hX rfl dX10_readThings_271
    · refine V_iconst X dX10_readThings_48 ?_
      refine V_aload_n X dX10_readThings_49 0 rfl ?_
      refine getX10 X (o := 0) (j := 27) rfl (by decide) q1575 (fv_0 rfl) dX10_readThings_50 ?_
      refine V_imul X dX10_readThings_53 ?_
      refine V_istore_n X dX10_readThings_54 (by decide) (L' := [(2, vI (5 * (gI g 927 0))), (0, .ref (xb x + 0)), (1, vI l1)]) rfl ?_
      refine V_aload_n X dX10_readThings_55 1 rfl ?_
      refine getX10 X (o := 0) (j := 11) rfl (by decide) q1559 (fv_1 (i := 4) rfl rfl) dX10_readThings_56 ?_
      refine V_iload_n X dX10_readThings_59 0 rfl ?_
      refine V_iconst X dX10_readThings_60 ?_
      refine V_iadd X dX10_readThings_61 ?_
      refine V_aload_n X dX10_readThings_62 1 rfl ?_
      refine V_iconst X dX10_readThings_63 ?_
      refine V_bipush X dX10_readThings_64 (by decide) ?_
      obtain ⟨c66, hc66, h⟩ := bind_some_eq h
      refine V_callV (As := [vI 1, vI 30]) (rest := [vI ((5 * (gI g 927 0)) + 0), .ref (xb x + 4)]) (s1 := [vI c66.1, vI ((5 * (gI g 927 0)) + 0), .ref (xb x + 4)]) (o := 0) X (con_m_readNumber N g 1 30 c66 hc66) gwX10_readNumber hdX10_readNumber (by decide) rfl (by decide) rfl rfl rfl (Nat.le_of_ble_eq_true rfl) ⟨Nat.zero_le _, Nat.zero_le _⟩ dX10_readThings_66 rfl rfl ?_
      refine V_iast X (o := 4) (n := 60) rfl (by decide) dX10_readThings_69 h (fun g69 h => ?_)
      refine V_aload_n X dX10_readThings_70 1 rfl ?_
      refine getX10 X (o := 0) (j := 11) rfl (by decide) q1559 (fv_1 (i := 4) rfl rfl) dX10_readThings_71 ?_
      refine V_iload_n X dX10_readThings_74 0 rfl ?_
      refine V_iconst X dX10_readThings_75 ?_
      refine V_iadd X dX10_readThings_76 ?_
      refine V_aload_n X dX10_readThings_77 1 rfl ?_
      refine V_iconst X dX10_readThings_78 ?_
      refine V_iconst X dX10_readThings_79 ?_
      obtain ⟨c80, hc80, h⟩ := bind_some_eq h
      refine V_callV (As := [vI 0, vI 1]) (rest := [vI ((5 * (gI g 927 0)) + 1), .ref (xb x + 4)]) (s1 := [vI c80.1, vI ((5 * (gI g 927 0)) + 1), .ref (xb x + 4)]) (o := 0) X (con_m_readNumber N g69 0 1 c80 hc80) gwX10_readNumber hdX10_readNumber (by decide) rfl (by decide) rfl rfl rfl (Nat.le_of_ble_eq_true rfl) ⟨Nat.zero_le _, Nat.zero_le _⟩ dX10_readThings_80 rfl rfl ?_
      refine V_iast X (o := 4) (n := 60) rfl (by decide) dX10_readThings_83 h (fun g83 h => ?_)
      refine V_aload_n X dX10_readThings_84 1 rfl ?_
      refine getX10 X (o := 0) (j := 11) rfl (by decide) q1559 (fv_1 (i := 4) rfl rfl) dX10_readThings_85 ?_
      refine V_iload_n X dX10_readThings_88 0 rfl ?_
      refine V_iconst X dX10_readThings_89 ?_
      refine V_iadd X dX10_readThings_90 ?_
      refine V_aload_n X dX10_readThings_91 1 rfl ?_
      refine V_iconst X dX10_readThings_92 ?_
      refine V_iconst X dX10_readThings_93 ?_
      obtain ⟨c94, hc94, h⟩ := bind_some_eq h
      refine V_callV (As := [vI 1, vI 2]) (rest := [vI ((5 * (gI g 927 0)) + 2), .ref (xb x + 4)]) (s1 := [vI c94.1, vI ((5 * (gI g 927 0)) + 2), .ref (xb x + 4)]) (o := 0) X (con_m_readNumber N g83 1 2 c94 hc94) gwX10_readNumber hdX10_readNumber (by decide) rfl (by decide) rfl rfl rfl (Nat.le_of_ble_eq_true rfl) ⟨Nat.zero_le _, Nat.zero_le _⟩ dX10_readThings_94 rfl rfl ?_
      refine V_iast X (o := 4) (n := 60) rfl (by decide) dX10_readThings_97 h (fun g97 h => ?_)
      refine V_aload_n X dX10_readThings_98 1 rfl ?_
      refine getX10 X (o := 0) (j := 11) rfl (by decide) q1559 (fv_1 (i := 4) rfl rfl) dX10_readThings_99 ?_
      refine V_iload_n X dX10_readThings_102 0 rfl ?_
      refine V_iconst X dX10_readThings_103 ?_
      refine V_iadd X dX10_readThings_104 ?_
      refine V_aload_n X dX10_readThings_105 1 rfl ?_
      refine V_iconst X dX10_readThings_106 ?_
      refine V_bipush X dX10_readThings_107 (by decide) ?_
      obtain ⟨c109, hc109, h⟩ := bind_some_eq h
      refine V_callV (As := [vI 0, vI 18]) (rest := [vI ((5 * (gI g 927 0)) + 3), .ref (xb x + 4)]) (s1 := [vI c109.1, vI ((5 * (gI g 927 0)) + 3), .ref (xb x + 4)]) (o := 0) X (con_m_readNumber N g97 0 18 c109 hc109) gwX10_readNumber hdX10_readNumber (by decide) rfl (by decide) rfl rfl rfl (Nat.le_of_ble_eq_true rfl) ⟨Nat.zero_le _, Nat.zero_le _⟩ dX10_readThings_109 rfl rfl ?_
      refine V_iast X (o := 4) (n := 60) rfl (by decide) dX10_readThings_112 h (fun g112 h => ?_)
      refine V_aload_n X dX10_readThings_113 1 rfl ?_
      refine getX10 X (o := 0) (j := 11) rfl (by decide) q1559 (fv_1 (i := 4) rfl rfl) dX10_readThings_114 ?_
      refine V_iload_n X dX10_readThings_117 0 rfl ?_
      refine V_iconst X dX10_readThings_118 ?_
      refine V_iadd X dX10_readThings_119 ?_
      refine V_iconst X dX10_readThings_120 ?_
      refine V_iast X (o := 4) (n := 60) rfl (by decide) dX10_readThings_121 h (fun g121 h => ?_)
      refine V_aload_n X dX10_readThings_122 1 rfl ?_
      refine V_dup X dX10_readThings_123 rfl ?_
      refine getX10 X (o := 0) (j := 27) rfl (by decide) q1575 (fv_0 rfl) dX10_readThings_124 ?_
      refine V_iconst X dX10_readThings_127 ?_
      refine V_iadd X dX10_readThings_128 ?_
      refine putX10 X (o := 0) (j := 27) (a := ((gI g121 927 0) + 1)) rfl (by decide) rfl rfl rfl q1575 dX10_readThings_129 ?_
      refine V_goto (tgt := 271) X dX10_readThings_132 (by decide) ?_
      have hr := Option.some.inj h
      subst hr
      exact V_end_v hX rfl dX10_readThings_271
  · refine V_aload_n X dX10_readThings_9 0 rfl ?_
    refine getX10 X (o := 0) (j := 10) rfl (by decide) q1558 (fv_1 (i := 3) rfl rfl) dX10_readThings_10 ?_
    refine V_aload_n X dX10_readThings_13 0 rfl ?_
    refine getX10 X (o := 0) (j := 26) rfl (by decide) q1574 (fv_0 rfl) dX10_readThings_14 ?_
    refine V_aload_n X dX10_readThings_17 0 rfl ?_
    refine V_iconst X dX10_readThings_18 ?_
    refine V_bipush X dX10_readThings_19 (by decide) ?_
    obtain ⟨c21, hc21, h⟩ := bind_some_eq h
    refine V_callV (As := [vI 1, vI 9]) (rest := [vI (gI g 926 0), .ref (xb x + 3)]) (s1 := [vI c21.1, vI (gI g 926 0), .ref (xb x + 3)]) (o := 0) X (con_m_readNumber N g 1 9 c21 hc21) gwX10_readNumber hdX10_readNumber (by decide) rfl (by decide) rfl rfl rfl (Nat.le_of_ble_eq_true rfl) ⟨Nat.zero_le _, Nat.zero_le _⟩ dX10_readThings_21 rfl rfl ?_
    refine V_iast X (o := 3) (n := 4) rfl (by decide) dX10_readThings_24 h (fun g24 h => ?_)
    refine V_aload_n X dX10_readThings_25 0 rfl ?_
    refine V_dup X dX10_readThings_26 rfl ?_
    refine getX10 X (o := 0) (j := 26) rfl (by decide) q1574 (fv_0 rfl) dX10_readThings_27 ?_
    refine V_iconst X dX10_readThings_30 ?_
    refine V_iadd X dX10_readThings_31 ?_
    refine putX10 X (o := 0) (j := 26) (a := ((gI g24 926 0) + 1)) rfl (by decide) rfl rfl rfl q1574 dX10_readThings_32 ?_
    refine V_goto (tgt := 271) X dX10_readThings_35 (by decide) ?_
    have hr := Option.some.inj h
    subst hr
    exact V_end_v hX rfl dX10_readThings_271
set_option maxHeartbeats 4000000 in
theorem con_m_readOthers (N : Nat) (g : GS) (l1 : Int) (r : GS) (h : m_readOthers N g l1 = some r) : Con yX10_readOthers cX10_readOthers 5 none 7 222 Km (fun b => [.ref (b + 0), vI l1]) g (fun _ => none) r := by
  refine Con.of RX10 (by decide) rfl (fun b => Nat.le_of_ble_eq_true rfl) (fun x sz hX => ?_)
  have X := hX.1
  have LL96 : ∀ (l3 : Int) (n : Nat) (s : (GS × Int)) (e : (GS)), loopN (fun s => m_readOthers_b96 N l3 s.1 s.2) n s = some e → V x 5 Km 0 0 sz e 116 [(0, .ref (xb x + 0))] [] → V x 5 Km 0 0 sz s.1 96 [(0, .ref (xb x + 0)), (3, vI l3), (4, vI s.2)] [] := by
    intro l3 n s e
    refine loop_walk (P := fun s => V x 5 Km 0 0 sz s.1 96 [(0, .ref (xb x + 0)), (3, vI l3), (4, vI s.2)] []) (E := fun e => V x 5 Km 0 0 sz e 116 [(0, .ref (xb x + 0))] []) ?_ n s e
    clear e s n
    rintro ⟨g, l4⟩ q96 h hc96 he96
    replace h : m_readOthers_b96 N l3 g l4 = some q96 := h
    unfold m_readOthers_b96 at h
    show V x 5 Km 0 0 sz g 96 [(0, .ref (xb x + 0)), (3, vI l3), (4, vI l4)] []
    refine V_iload X dX10_readOthers_96 2 rfl ?_
    refine V_iload_n X dX10_readOthers_98 1 rfl ?_
    refine V_icmp_gt (tgt := 116) X dX10_readOthers_99 (by decide) h (fun h => ?_) (fun h => ?_)
    · exact V_sub [0] rfl (he96 _ (Option.some.inj h).symm)
    · refine V_aload_n X dX10_readOthers_102 0 rfl ?_
      refine getX10 X (o := 0) (j := 22) rfl (by decide) q1570 (fv_1 (i := 15) rfl rfl) dX10_readOthers_103 ?_
      refine V_iload X dX10_readOthers_106 2 rfl ?_
      refine V_iconst X dX10_readOthers_108 ?_
      refine V_zast X (o := 15) (n := 241) rfl (by decide) dX10_readOthers_109 h (fun g109 h => ?_)
      refine V_iinc X dX10_readOthers_110 2 rfl (by decide) (L' := [(4, vI (l4 + 1)), (0, .ref (xb x + 0)), (3, vI l3)]) rfl ?_
      refine V_goto (tgt := 96) X dX10_readOthers_113 (by decide) ?_
      exact V_sub [1, 2, 0] rfl (hc96 _ (Option.some.inj h).symm)
  unfold m_readOthers at h
  show V x 5 Km 0 0 sz g 0 [(0, .ref (xb x + 0)), (1, vI l1)] []
  refine V_iload_n X dX10_readOthers_0 1 rfl ?_
  obtain ⟨sa1_, hksa1_, hssa1_⟩ := (xok_sf X).str 24 (by decide) q1824
  replace hssa1_ : STR (xb x) sa1_ tx_needs x.1.2.2.2.2.1 x.1.2.2.2.2.1.heap := hssa1_
  refine V_ldcSw X hksa1_ dX10_readOthers_1 ?_
  obtain ⟨c4, hc4, h⟩ := bind_some_eq h
  refine V_callSE (As := [.ref sa1_]) (rest := [vI l1]) (s1 := [vI c4, vI l1]) X (con_m_of N sa1_ tx_needs as_needs g c4 hc4) STR.blind (str_on X hssa1_) gwX10_of hdX10_of (by decide) rfl rfl (Nat.le_of_ble_eq_true rfl) ⟨Nat.zero_le _, Nat.zero_le _⟩ dX10_readOthers_4 rfl rfl ?_
  refine V_icmp_ne (tgt := 57) X dX10_readOthers_7 (by decide) h (fun h => ?_) (fun h => ?_)
  · refine V_iload_n X dX10_readOthers_57 1 rfl ?_
    obtain ⟨sa58_, hksa58_, hssa58_⟩ := (xok_sf X).str 25 (by decide) q1825
    replace hssa58_ : STR (xb x) sa58_ tx_rain x.1.2.2.2.2.1 x.1.2.2.2.2.1.heap := hssa58_
    refine V_ldcSw X hksa58_ dX10_readOthers_58 ?_
    obtain ⟨c61, hc61, h⟩ := bind_some_eq h
    refine V_callSE (As := [.ref sa58_]) (rest := [vI l1]) (s1 := [vI c61, vI l1]) X (con_m_of N sa58_ tx_rain as_rain g c61 hc61) STR.blind (str_on X hssa58_) gwX10_of hdX10_of (by decide) rfl rfl (Nat.le_of_ble_eq_true rfl) ⟨Nat.zero_le _, Nat.zero_le _⟩ dX10_readOthers_61 rfl rfl ?_
    refine V_icmp_ne (tgt := 129) X dX10_readOthers_64 (by decide) h (fun h => ?_) (fun h => ?_)
    · refine V_iload_n X dX10_readOthers_129 1 rfl ?_
      obtain ⟨sa130_, hksa130_, hssa130_⟩ := (xok_sf X).str 26 (by decide) q1826
      replace hssa130_ : STR (xb x) sa130_ tx_yard x.1.2.2.2.2.1 x.1.2.2.2.2.1.heap := hssa130_
      refine V_ldcSw X hksa130_ dX10_readOthers_130 ?_
      obtain ⟨c133, hc133, h⟩ := bind_some_eq h
      refine V_callSE (As := [.ref sa130_]) (rest := [vI l1]) (s1 := [vI c133, vI l1]) X (con_m_of N sa130_ tx_yard as_yard g c133 hc133) STR.blind (str_on X hssa130_) gwX10_of hdX10_of (by decide) rfl rfl (Nat.le_of_ble_eq_true rfl) ⟨Nat.zero_le _, Nat.zero_le _⟩ dX10_readOthers_133 rfl rfl ?_
      refine V_icmp_ne (tgt := 172) X dX10_readOthers_136 (by decide) h (fun h => ?_) (fun h => ?_)
      · refine V_iload_n X dX10_readOthers_172 1 rfl ?_
        obtain ⟨sa173_, hksa173_, hssa173_⟩ := (xok_sf X).str 27 (by decide) q1827
        replace hssa173_ : STR (xb x) sa173_ tx_load x.1.2.2.2.2.1 x.1.2.2.2.2.1.heap := hssa173_
        refine V_ldcSw X hksa173_ dX10_readOthers_173 ?_
        obtain ⟨c176, hc176, h⟩ := bind_some_eq h
        refine V_callSE (As := [.ref sa173_]) (rest := [vI l1]) (s1 := [vI c176, vI l1]) X (con_m_of N sa173_ tx_load as_load g c176 hc176) STR.blind (str_on X hssa173_) gwX10_of hdX10_of (by decide) rfl rfl (Nat.le_of_ble_eq_true rfl) ⟨Nat.zero_le _, Nat.zero_le _⟩ dX10_readOthers_176 rfl rfl ?_
        refine V_icmp_ne (tgt := 198) X dX10_readOthers_179 (by decide) h (fun h => ?_) (fun h => ?_)
        · refine V_iload_n X dX10_readOthers_198 1 rfl ?_
          obtain ⟨sa199_, hksa199_, hssa199_⟩ := (xok_sf X).str 28 (by decide) q1828
          replace hssa199_ : STR (xb x) sa199_ tx_stops x.1.2.2.2.2.1 x.1.2.2.2.2.1.heap := hssa199_
          refine V_ldcSw X hksa199_ dX10_readOthers_199 ?_
          obtain ⟨c202, hc202, h⟩ := bind_some_eq h
          refine V_callSE (As := [.ref sa199_]) (rest := [vI l1]) (s1 := [vI c202, vI l1]) X (con_m_of N sa199_ tx_stops as_stops g c202 hc202) STR.blind (str_on X hssa199_) gwX10_of hdX10_of (by decide) rfl rfl (Nat.le_of_ble_eq_true rfl) ⟨Nat.zero_le _, Nat.zero_le _⟩ dX10_readOthers_202 rfl rfl ?_
          refine V_icmp_ne (tgt := 224) X dX10_readOthers_205 (by decide) h (fun h => ?_) (fun h => ?_)
          · refine V_iload_n X dX10_readOthers_224 1 rfl ?_
            obtain ⟨sa225_, hksa225_, hssa225_⟩ := (xok_sf X).str 29 (by decide) q1829
            replace hssa225_ : STR (xb x) sa225_ tx_loses x.1.2.2.2.2.1 x.1.2.2.2.2.1.heap := hssa225_
            refine V_ldcSw X hksa225_ dX10_readOthers_225 ?_
            obtain ⟨c228, hc228, h⟩ := bind_some_eq h
            refine V_callSE (As := [.ref sa225_]) (rest := [vI l1]) (s1 := [vI c228, vI l1]) X (con_m_of N sa225_ tx_loses as_loses g c228 hc228) STR.blind (str_on X hssa225_) gwX10_of hdX10_of (by decide) rfl rfl (Nat.le_of_ble_eq_true rfl) ⟨Nat.zero_le _, Nat.zero_le _⟩ dX10_readOthers_228 rfl rfl ?_
            refine V_icmp_ne (tgt := 250) X dX10_readOthers_231 (by decide) h (fun h => ?_) (fun h => ?_)
            · refine V_aload_n X dX10_readOthers_250 0 rfl ?_
              refine getX10 X (o := 0) (j := 24) rfl (by decide) q1572 (fv_1 (i := 17) rfl rfl) dX10_readOthers_251 ?_
              refine V_iconst X dX10_readOthers_254 ?_
              refine V_aload_n X dX10_readOthers_255 0 rfl ?_
              refine V_iconst X dX10_readOthers_256 ?_
              refine V_bipush X dX10_readOthers_257 (by decide) ?_
              obtain ⟨c259, hc259, h⟩ := bind_some_eq h
              refine V_callV (As := [vI 0, vI 99]) (rest := [vI 3, .ref (xb x + 17)]) (s1 := [vI c259.1, vI 3, .ref (xb x + 17)]) (o := 0) X (con_m_readNumber N g 0 99 c259 hc259) gwX10_readNumber hdX10_readNumber (by decide) rfl (by decide) rfl rfl rfl (Nat.le_of_ble_eq_true rfl) ⟨Nat.zero_le _, Nat.zero_le _⟩ dX10_readOthers_259 rfl rfl ?_
              refine V_iast X (o := 17) (n := 5) rfl (by decide) dX10_readOthers_262 h (fun g262 h => ?_)
              refine V_aload_n X dX10_readOthers_263 0 rfl ?_
              refine getX10 X (o := 0) (j := 24) rfl (by decide) q1572 (fv_1 (i := 17) rfl rfl) dX10_readOthers_264 ?_
              refine V_iconst X dX10_readOthers_267 ?_
              refine V_aload_n X dX10_readOthers_268 0 rfl ?_
              refine V_iconst X dX10_readOthers_269 ?_
              refine V_bipush X dX10_readOthers_270 (by decide) ?_
              obtain ⟨c272, hc272, h⟩ := bind_some_eq h
              refine V_callV (As := [vI 1, vI 9]) (rest := [vI 4, .ref (xb x + 17)]) (s1 := [vI c272.1, vI 4, .ref (xb x + 17)]) (o := 0) X (con_m_readNumber N g262 1 9 c272 hc272) gwX10_readNumber hdX10_readNumber (by decide) rfl (by decide) rfl rfl rfl (Nat.le_of_ble_eq_true rfl) ⟨Nat.zero_le _, Nat.zero_le _⟩ dX10_readOthers_272 rfl rfl ?_
              refine V_iast X (o := 17) (n := 5) rfl (by decide) dX10_readOthers_275 h (fun g275 h => ?_)
              have hr := Option.some.inj h
              subst hr
              exact V_end_v hX rfl dX10_readOthers_276
            · refine V_aload_n X dX10_readOthers_234 0 rfl ?_
              refine getX10 X (o := 0) (j := 24) rfl (by decide) q1572 (fv_1 (i := 17) rfl rfl) dX10_readOthers_235 ?_
              refine V_iconst X dX10_readOthers_238 ?_
              refine V_aload_n X dX10_readOthers_239 0 rfl ?_
              refine V_iconst X dX10_readOthers_240 ?_
              refine V_bipush X dX10_readOthers_241 (by decide) ?_
              obtain ⟨c243, hc243, h⟩ := bind_some_eq h
              refine V_callV (As := [vI 0, vI 16]) (rest := [vI 2, .ref (xb x + 17)]) (s1 := [vI c243.1, vI 2, .ref (xb x + 17)]) (o := 0) X (con_m_readNumber N g 0 16 c243 hc243) gwX10_readNumber hdX10_readNumber (by decide) rfl (by decide) rfl rfl rfl (Nat.le_of_ble_eq_true rfl) ⟨Nat.zero_le _, Nat.zero_le _⟩ dX10_readOthers_243 rfl rfl ?_
              refine V_iast X (o := 17) (n := 5) rfl (by decide) dX10_readOthers_246 h (fun g246 h => ?_)
              refine V_goto (tgt := 276) X dX10_readOthers_247 (by decide) ?_
              have hr := Option.some.inj h
              subst hr
              exact V_end_v hX rfl dX10_readOthers_276
          · refine V_aload_n X dX10_readOthers_208 0 rfl ?_
            refine getX10 X (o := 0) (j := 24) rfl (by decide) q1572 (fv_1 (i := 17) rfl rfl) dX10_readOthers_209 ?_
            refine V_iconst X dX10_readOthers_212 ?_
            refine V_aload_n X dX10_readOthers_213 0 rfl ?_
            refine V_iconst X dX10_readOthers_214 ?_
            refine V_bipush X dX10_readOthers_215 (by decide) ?_
            obtain ⟨c217, hc217, h⟩ := bind_some_eq h
            refine V_callV (As := [vI 0, vI 16]) (rest := [vI 1, .ref (xb x + 17)]) (s1 := [vI c217.1, vI 1, .ref (xb x + 17)]) (o := 0) X (con_m_readNumber N g 0 16 c217 hc217) gwX10_readNumber hdX10_readNumber (by decide) rfl (by decide) rfl rfl rfl (Nat.le_of_ble_eq_true rfl) ⟨Nat.zero_le _, Nat.zero_le _⟩ dX10_readOthers_217 rfl rfl ?_
            refine V_iast X (o := 17) (n := 5) rfl (by decide) dX10_readOthers_220 h (fun g220 h => ?_)
            refine V_goto (tgt := 276) X dX10_readOthers_221 (by decide) ?_
            have hr := Option.some.inj h
            subst hr
            exact V_end_v hX rfl dX10_readOthers_276
        · refine V_aload_n X dX10_readOthers_182 0 rfl ?_
          refine getX10 X (o := 0) (j := 24) rfl (by decide) q1572 (fv_1 (i := 17) rfl rfl) dX10_readOthers_183 ?_
          refine V_iconst X dX10_readOthers_186 ?_
          refine V_aload_n X dX10_readOthers_187 0 rfl ?_
          refine V_iconst X dX10_readOthers_188 ?_
          refine V_bipush X dX10_readOthers_189 (by decide) ?_
          obtain ⟨c191, hc191, h⟩ := bind_some_eq h
          refine V_callV (As := [vI 1, vI 99]) (rest := [vI 0, .ref (xb x + 17)]) (s1 := [vI c191.1, vI 0, .ref (xb x + 17)]) (o := 0) X (con_m_readNumber N g 1 99 c191 hc191) gwX10_readNumber hdX10_readNumber (by decide) rfl (by decide) rfl rfl rfl (Nat.le_of_ble_eq_true rfl) ⟨Nat.zero_le _, Nat.zero_le _⟩ dX10_readOthers_191 rfl rfl ?_
          refine V_iast X (o := 17) (n := 5) rfl (by decide) dX10_readOthers_194 h (fun g194 h => ?_)
          refine V_goto (tgt := 276) X dX10_readOthers_195 (by decide) ?_
          have hr := Option.some.inj h
          subst hr
          exact V_end_v hX rfl dX10_readOthers_276
      · refine V_aload_n X dX10_readOthers_139 0 rfl ?_
        refine V_iconst X dX10_readOthers_140 ?_
        refine V_bipush X dX10_readOthers_141 (by decide) ?_
        obtain ⟨c143, hc143, h⟩ := bind_some_eq h
        refine V_callV (As := [vI 0, vI 59]) (rest := []) (s1 := [vI c143.1]) (o := 0) X (con_m_readNumber N g 0 59 c143 hc143) gwX10_readNumber hdX10_readNumber (by decide) rfl (by decide) rfl rfl rfl (Nat.le_of_ble_eq_true rfl) ⟨Nat.zero_le _, Nat.zero_le _⟩ dX10_readOthers_143 rfl rfl ?_
        refine V_istore_n X dX10_readOthers_146 (by decide) (L' := [(2, vI c143.1), (0, .ref (xb x + 0)), (1, vI l1)]) rfl ?_
        refine V_aload_n X dX10_readOthers_147 1 rfl ?_
        refine V_iconst X dX10_readOthers_148 ?_
        refine V_bipush X dX10_readOthers_149 (by decide) ?_
        obtain ⟨c151, hc151, h⟩ := bind_some_eq h
        refine V_callV (As := [vI 0, vI 20]) (rest := []) (s1 := [vI c151.1]) (o := 0) X (con_m_readNumber N c143.2 0 20 c151 hc151) gwX10_readNumber hdX10_readNumber (by decide) rfl (by decide) rfl rfl rfl (Nat.le_of_ble_eq_true rfl) ⟨Nat.zero_le _, Nat.zero_le _⟩ dX10_readOthers_151 rfl rfl ?_
        refine V_istore_n X dX10_readOthers_154 (by decide) (L' := [(3, vI c151.1), (2, vI c143.1), (0, .ref (xb x + 0)), (1, vI l1)]) rfl ?_
        refine V_aload_n X dX10_readOthers_155 2 rfl ?_
        obtain ⟨c156, hc156, h⟩ := bind_some_eq h
        refine V_callV (As := []) (rest := []) (s1 := [vI c156]) (o := 0) X (con_m_fine c151.2 c156 hc156) gwX10_fine hdX10_fine (by decide) rfl (by decide) rfl rfl rfl (Nat.le_of_ble_eq_true rfl) ⟨Nat.zero_le _, Nat.zero_le _⟩ dX10_readOthers_156 rfl rfl ?_
        refine V_if_eq (tgt := 169) X dX10_readOthers_159 (by decide) h (fun h => ?_) (fun h => ?_)
        · refine V_goto (tgt := 276) X dX10_readOthers_169 (by decide) ?_
          have hr := Option.some.inj h
          subst hr
          exact V_end_v hX rfl dX10_readOthers_276
        · refine V_aload_n X dX10_readOthers_162 2 rfl ?_
          refine getX10 X (o := 0) (j := 12) rfl (by decide) q1560 (fv_1 (i := 5) rfl rfl) dX10_readOthers_163 ?_
          refine V_iload_n X dX10_readOthers_166 1 rfl ?_
          refine V_iload_n X dX10_readOthers_167 0 rfl ?_
          refine V_iast X (o := 5) (n := 60) rfl (by decide) dX10_readOthers_168 h (fun g168 h => ?_)
          refine V_goto (tgt := 276) X dX10_readOthers_169 (by decide) ?_
          have hr := Option.some.inj h
          subst hr
          exact V_end_v hX rfl dX10_readOthers_276
    · refine V_aload_n X dX10_readOthers_67 0 rfl ?_
      refine V_iconst X dX10_readOthers_68 ?_
      refine V_sipush X dX10_readOthers_69 (by decide) ?_
      obtain ⟨c72, hc72, h⟩ := bind_some_eq h
      refine V_callV (As := [vI 0, vI 240]) (rest := []) (s1 := [vI c72.1]) (o := 0) X (con_m_readNumber N g 0 240 c72 hc72) gwX10_readNumber hdX10_readNumber (by decide) rfl (by decide) rfl rfl rfl (Nat.le_of_ble_eq_true rfl) ⟨Nat.zero_le _, Nat.zero_le _⟩ dX10_readOthers_72 rfl rfl ?_
      refine V_istore_n X dX10_readOthers_75 (by decide) (L' := [(2, vI c72.1), (0, .ref (xb x + 0)), (1, vI l1)]) rfl ?_
      refine V_aload_n X dX10_readOthers_76 1 rfl ?_
      refine V_iload_n X dX10_readOthers_77 0 rfl ?_
      refine V_sipush X dX10_readOthers_78 (by decide) ?_
      obtain ⟨c81, hc81, h⟩ := bind_some_eq h
      refine V_callV (As := [vI c72.1, vI 240]) (rest := []) (s1 := [vI c81.1]) (o := 0) X (con_m_readNumber N c72.2 c72.1 240 c81 hc81) gwX10_readNumber hdX10_readNumber (by decide) rfl (by decide) rfl rfl rfl (Nat.le_of_ble_eq_true rfl) ⟨Nat.zero_le _, Nat.zero_le _⟩ dX10_readOthers_81 rfl rfl ?_
      refine V_istore_n X dX10_readOthers_84 (by decide) (L' := [(3, vI c81.1), (2, vI c72.1), (0, .ref (xb x + 0)), (1, vI l1)]) rfl ?_
      refine V_aload_n X dX10_readOthers_85 2 rfl ?_
      obtain ⟨c86, hc86, h⟩ := bind_some_eq h
      refine V_callV (As := []) (rest := []) (s1 := [vI c86]) (o := 0) X (con_m_fine c81.2 c86 hc86) gwX10_fine hdX10_fine (by decide) rfl (by decide) rfl rfl rfl (Nat.le_of_ble_eq_true rfl) ⟨Nat.zero_le _, Nat.zero_le _⟩ dX10_readOthers_86 rfl rfl ?_
      refine V_if_ne (tgt := 93) X dX10_readOthers_89 (by decide) h (fun h => ?_) (fun h => ?_)
      · refine V_iload_n X dX10_readOthers_93 1 rfl ?_
        refine V_istore X dX10_readOthers_94 (by decide) (L' := [(4, vI c72.1), (3, vI c81.1), (2, vI c72.1), (0, .ref (xb x + 0)), (1, vI l1)]) rfl ?_
        obtain ⟨t1, t1q, h⟩ := bind_some_eq h
        refine V_sub [3, 1, 0] rfl (LL96 c81.1 N (c81.2, c72.1) _ t1q ?_)
        refine V_aload_n X dX10_readOthers_116 0 rfl ?_
        refine V_dup X dX10_readOthers_117 rfl ?_
        refine getX10 X (o := 0) (j := 28) rfl (by decide) q1576 (fv_0 rfl) dX10_readOthers_118 ?_
        refine V_iconst X dX10_readOthers_121 ?_
        refine V_iadd X dX10_readOthers_122 ?_
        refine putX10 X (o := 0) (j := 28) (a := ((gI t1 928 0) + 1)) rfl (by decide) rfl rfl rfl q1576 dX10_readOthers_123 ?_
        refine V_goto (tgt := 276) X dX10_readOthers_126 (by decide) ?_
        have hr := Option.some.inj h
        subst hr
        exact V_end_v hX rfl dX10_readOthers_276
      · have hr := Option.some.inj h
        subst hr
        exact V_end_v hX rfl dX10_readOthers_92
  · refine V_aload_n X dX10_readOthers_10 0 rfl ?_
    refine V_iconst X dX10_readOthers_11 ?_
    refine V_aload_n X dX10_readOthers_12 0 rfl ?_
    refine getX10 X (o := 0) (j := 27) rfl (by decide) q1575 (fv_0 rfl) dX10_readOthers_13 ?_
    refine V_iconst X dX10_readOthers_16 ?_
    refine V_isub X dX10_readOthers_17 ?_
    obtain ⟨c18, hc18, h⟩ := bind_some_eq h
    refine V_callV (As := [vI 0, vI ((gI g 927 0) - 1)]) (rest := []) (s1 := [vI c18.1]) (o := 0) X (con_m_readNumber N g 0 ((gI g 927 0) - 1) c18 hc18) gwX10_readNumber hdX10_readNumber (by decide) rfl (by decide) rfl rfl rfl (Nat.le_of_ble_eq_true rfl) ⟨Nat.zero_le _, Nat.zero_le _⟩ dX10_readOthers_18 rfl rfl ?_
    refine V_istore_n X dX10_readOthers_21 (by decide) (L' := [(2, vI c18.1), (0, .ref (xb x + 0)), (1, vI l1)]) rfl ?_
    refine V_aload_n X dX10_readOthers_22 1 rfl ?_
    refine V_iconst X dX10_readOthers_23 ?_
    refine V_iload_n X dX10_readOthers_24 0 rfl ?_
    refine V_iconst X dX10_readOthers_25 ?_
    refine V_isub X dX10_readOthers_26 ?_
    obtain ⟨c27, hc27, h⟩ := bind_some_eq h
    refine V_callV (As := [vI 0, vI (c18.1 - 1)]) (rest := []) (s1 := [vI c27.1]) (o := 0) X (con_m_readNumber N c18.2 0 (c18.1 - 1) c27 hc27) gwX10_readNumber hdX10_readNumber (by decide) rfl (by decide) rfl rfl rfl (Nat.le_of_ble_eq_true rfl) ⟨Nat.zero_le _, Nat.zero_le _⟩ dX10_readOthers_27 rfl rfl ?_
    refine V_istore_n X dX10_readOthers_30 (by decide) (L' := [(3, vI c27.1), (2, vI c18.1), (0, .ref (xb x + 0)), (1, vI l1)]) rfl ?_
    refine V_aload_n X dX10_readOthers_31 2 rfl ?_
    obtain ⟨c32, hc32, h⟩ := bind_some_eq h
    refine V_callV (As := []) (rest := []) (s1 := [vI c32]) (o := 0) X (con_m_fine c27.2 c32 hc32) gwX10_fine hdX10_fine (by decide) rfl (by decide) rfl rfl rfl (Nat.le_of_ble_eq_true rfl) ⟨Nat.zero_le _, Nat.zero_le _⟩ dX10_readOthers_32 rfl rfl ?_
    refine V_if_eq (tgt := 54) X dX10_readOthers_35 (by decide) h (fun h => ?_) (fun h => ?_)
    · refine V_goto (tgt := 276) X dX10_readOthers_54 (by decide) ?_
      have hr := Option.some.inj h
      subst hr
      exact V_end_v hX rfl dX10_readOthers_276
    · refine V_aload_n X dX10_readOthers_38 2 rfl ?_
      refine getX10 X (o := 0) (j := 11) rfl (by decide) q1559 (fv_1 (i := 4) rfl rfl) dX10_readOthers_39 ?_
      refine V_iconst X dX10_readOthers_42 ?_
      refine V_iload_n X dX10_readOthers_43 1 rfl ?_
      refine V_imul X dX10_readOthers_44 ?_
      refine V_iconst X dX10_readOthers_45 ?_
      refine V_iadd X dX10_readOthers_46 ?_
      refine V_dup2 X dX10_readOthers_47 rfl rfl ?_
      refine V_iald X (o := 4) (n := 60) rfl (by decide) dX10_readOthers_48 h (fun v48 h => ?_)
      refine V_iconst X dX10_readOthers_49 ?_
      refine V_iload_n X dX10_readOthers_50 0 rfl ?_
      refine V_ishl X dX10_readOthers_51 ?_
      refine V_ior X dX10_readOthers_52 ?_
      refine V_iast X (o := 4) (n := 60) rfl (by decide) dX10_readOthers_53 h (fun g53 h => ?_)
      refine V_goto (tgt := 276) X dX10_readOthers_54 (by decide) ?_
      have hr := Option.some.inj h
      subst hr
      exact V_end_v hX rfl dX10_readOthers_276
set_option maxHeartbeats 4000000 in
theorem con_m_isThing (N : Nat) (g : GS) (l0 : Int) (r : Int) (h : m_isThing N l0 = some r) : Con yX10_isThing cX10_isThing 1 (some .boolean) 7 222 Km (fun b => [vI l0]) g (fun _ => some (vI r)) g := by
  refine Con.of RX10 (by decide) rfl (fun b => Nat.le_of_ble_eq_true rfl) (fun x sz hX => ?_)
  have X := hX.1
  unfold m_isThing at h
  show V x 1 Km 0 0 sz g 0 [(0, vI l0)] []
  refine V_iload_n X dX10_isThing_0 0 rfl ?_
  obtain ⟨sa1_, hksa1_, hssa1_⟩ := (xok_sf X).str 20 (by decide) q1811
  replace hssa1_ : STR (xb x) sa1_ tx_person x.1.2.2.2.2.1 x.1.2.2.2.2.1.heap := hssa1_
  refine V_ldcS X hksa1_ dX10_isThing_1 ?_
  obtain ⟨c3, hc3, h⟩ := bind_some_eq h
  refine V_callSE (As := [.ref sa1_]) (rest := [vI l0]) (s1 := [vI c3, vI l0]) X (con_m_of N sa1_ tx_person as_person g c3 hc3) STR.blind (str_on X hssa1_) gwX10_of hdX10_of (by decide) rfl rfl (Nat.le_of_ble_eq_true rfl) ⟨Nat.zero_le _, Nat.zero_le _⟩ dX10_isThing_3 rfl rfl ?_
  refine V_icmp_eq (tgt := 49) X dX10_isThing_6 (by decide) h (fun h => ?_) (fun h => ?_)
  · refine V_iconst X dX10_isThing_49 ?_
    refine V_goto (tgt := 54) X dX10_isThing_50 (by decide) ?_
    have hr := Option.some.inj h
    subst hr
    exact V_end_z hX (Or.inr rfl) rfl dX10_isThing_54
  · refine V_iload_n X dX10_isThing_9 0 rfl ?_
    obtain ⟨sa10_, hksa10_, hssa10_⟩ := (xok_sf X).str 21 (by decide) q1817
    replace hssa10_ : STR (xb x) sa10_ tx_deed x.1.2.2.2.2.1 x.1.2.2.2.2.1.heap := hssa10_
    refine V_ldcSw X hksa10_ dX10_isThing_10 ?_
    obtain ⟨c13, hc13, h⟩ := bind_some_eq h
    refine V_callSE (As := [.ref sa10_]) (rest := [vI l0]) (s1 := [vI c13, vI l0]) X (con_m_of N sa10_ tx_deed as_deed g c13 hc13) STR.blind (str_on X hssa10_) gwX10_of hdX10_of (by decide) rfl rfl (Nat.le_of_ble_eq_true rfl) ⟨Nat.zero_le _, Nat.zero_le _⟩ dX10_isThing_13 rfl rfl ?_
    refine V_icmp_eq (tgt := 49) X dX10_isThing_16 (by decide) h (fun h => ?_) (fun h => ?_)
    · refine V_iconst X dX10_isThing_49 ?_
      refine V_goto (tgt := 54) X dX10_isThing_50 (by decide) ?_
      have hr := Option.some.inj h
      subst hr
      exact V_end_z hX (Or.inr rfl) rfl dX10_isThing_54
    · refine V_iload_n X dX10_isThing_19 0 rfl ?_
      obtain ⟨sa20_, hksa20_, hssa20_⟩ := (xok_sf X).str 22 (by decide) q1818
      replace hssa20_ : STR (xb x) sa20_ tx_board x.1.2.2.2.2.1 x.1.2.2.2.2.1.heap := hssa20_
      refine V_ldcSw X hksa20_ dX10_isThing_20 ?_
      obtain ⟨c23, hc23, h⟩ := bind_some_eq h
      refine V_callSE (As := [.ref sa20_]) (rest := [vI l0]) (s1 := [vI c23, vI l0]) X (con_m_of N sa20_ tx_board as_board g c23 hc23) STR.blind (str_on X hssa20_) gwX10_of hdX10_of (by decide) rfl rfl (Nat.le_of_ble_eq_true rfl) ⟨Nat.zero_le _, Nat.zero_le _⟩ dX10_isThing_23 rfl rfl ?_
      refine V_icmp_eq (tgt := 49) X dX10_isThing_26 (by decide) h (fun h => ?_) (fun h => ?_)
      · refine V_iconst X dX10_isThing_49 ?_
        refine V_goto (tgt := 54) X dX10_isThing_50 (by decide) ?_
        have hr := Option.some.inj h
        subst hr
        exact V_end_z hX (Or.inr rfl) rfl dX10_isThing_54
      · refine V_iload_n X dX10_isThing_29 0 rfl ?_
        obtain ⟨sa30_, hksa30_, hssa30_⟩ := (xok_sf X).str 23 (by decide) q1819
        replace hssa30_ : STR (xb x) sa30_ tx_nut x.1.2.2.2.2.1 x.1.2.2.2.2.1.heap := hssa30_
        refine V_ldcSw X hksa30_ dX10_isThing_30 ?_
        obtain ⟨c33, hc33, h⟩ := bind_some_eq h
        refine V_callSE (As := [.ref sa30_]) (rest := [vI l0]) (s1 := [vI c33, vI l0]) X (con_m_of N sa30_ tx_nut as_nut g c33 hc33) STR.blind (str_on X hssa30_) gwX10_of hdX10_of (by decide) rfl rfl (Nat.le_of_ble_eq_true rfl) ⟨Nat.zero_le _, Nat.zero_le _⟩ dX10_isThing_33 rfl rfl ?_
        refine V_icmp_eq (tgt := 49) X dX10_isThing_36 (by decide) h (fun h => ?_) (fun h => ?_)
        · refine V_iconst X dX10_isThing_49 ?_
          refine V_goto (tgt := 54) X dX10_isThing_50 (by decide) ?_
          have hr := Option.some.inj h
          subst hr
          exact V_end_z hX (Or.inr rfl) rfl dX10_isThing_54
        · refine V_iload_n X dX10_isThing_39 0 rfl ?_
          obtain ⟨sa40_, hksa40_, hssa40_⟩ := (xok_sf X).str 30 (by decide) q1820
          replace hssa40_ : STR (xb x) sa40_ tx_cause x.1.2.2.2.2.1 x.1.2.2.2.2.1.heap := hssa40_
          refine V_ldcSw X hksa40_ dX10_isThing_40 ?_
          obtain ⟨c43, hc43, h⟩ := bind_some_eq h
          refine V_callSE (As := [.ref sa40_]) (rest := [vI l0]) (s1 := [vI c43, vI l0]) X (con_m_of N sa40_ tx_cause as_cause g c43 hc43) STR.blind (str_on X hssa40_) gwX10_of hdX10_of (by decide) rfl rfl (Nat.le_of_ble_eq_true rfl) ⟨Nat.zero_le _, Nat.zero_le _⟩ dX10_isThing_43 rfl rfl ?_
          refine V_icmp_ne (tgt := 53) X dX10_isThing_46 (by decide) h (fun h => ?_) (fun h => ?_)
          · refine V_iconst X dX10_isThing_53 ?_
            have hr := Option.some.inj h
            subst hr
            exact V_end_z hX (Or.inl rfl) rfl dX10_isThing_54
          · refine V_iconst X dX10_isThing_49 ?_
            refine V_goto (tgt := 54) X dX10_isThing_50 (by decide) ?_
            have hr := Option.some.inj h
            subst hr
            exact V_end_z hX (Or.inr rfl) rfl dX10_isThing_54
set_option maxHeartbeats 4000000 in
theorem con_m_isOther (N : Nat) (g : GS) (l0 : Int) (r : Int) (h : m_isOther N l0 = some r) : Con yX10_isOther cX10_isOther 1 (some .boolean) 7 222 Km (fun b => [vI l0]) g (fun _ => some (vI r)) g := by
  refine Con.of RX10 (by decide) rfl (fun b => Nat.le_of_ble_eq_true rfl) (fun x sz hX => ?_)
  have X := hX.1
  unfold m_isOther at h
  show V x 1 Km 0 0 sz g 0 [(0, vI l0)] []
  refine V_iload_n X dX10_isOther_0 0 rfl ?_
  obtain ⟨sa1_, hksa1_, hssa1_⟩ := (xok_sf X).str 24 (by decide) q1824
  replace hssa1_ : STR (xb x) sa1_ tx_needs x.1.2.2.2.2.1 x.1.2.2.2.2.1.heap := hssa1_
  refine V_ldcSw X hksa1_ dX10_isOther_1 ?_
  obtain ⟨c4, hc4, h⟩ := bind_some_eq h
  refine V_callSE (As := [.ref sa1_]) (rest := [vI l0]) (s1 := [vI c4, vI l0]) X (con_m_of N sa1_ tx_needs as_needs g c4 hc4) STR.blind (str_on X hssa1_) gwX10_of hdX10_of (by decide) rfl rfl (Nat.le_of_ble_eq_true rfl) ⟨Nat.zero_le _, Nat.zero_le _⟩ dX10_isOther_4 rfl rfl ?_
  refine V_icmp_eq (tgt := 70) X dX10_isOther_7 (by decide) h (fun h => ?_) (fun h => ?_)
  · refine V_iconst X dX10_isOther_70 ?_
    refine V_goto (tgt := 75) X dX10_isOther_71 (by decide) ?_
    have hr := Option.some.inj h
    subst hr
    exact V_end_z hX (Or.inr rfl) rfl dX10_isOther_75
  · refine V_iload_n X dX10_isOther_10 0 rfl ?_
    obtain ⟨sa11_, hksa11_, hssa11_⟩ := (xok_sf X).str 25 (by decide) q1825
    replace hssa11_ : STR (xb x) sa11_ tx_rain x.1.2.2.2.2.1 x.1.2.2.2.2.1.heap := hssa11_
    refine V_ldcSw X hksa11_ dX10_isOther_11 ?_
    obtain ⟨c14, hc14, h⟩ := bind_some_eq h
    refine V_callSE (As := [.ref sa11_]) (rest := [vI l0]) (s1 := [vI c14, vI l0]) X (con_m_of N sa11_ tx_rain as_rain g c14 hc14) STR.blind (str_on X hssa11_) gwX10_of hdX10_of (by decide) rfl rfl (Nat.le_of_ble_eq_true rfl) ⟨Nat.zero_le _, Nat.zero_le _⟩ dX10_isOther_14 rfl rfl ?_
    refine V_icmp_eq (tgt := 70) X dX10_isOther_17 (by decide) h (fun h => ?_) (fun h => ?_)
    · refine V_iconst X dX10_isOther_70 ?_
      refine V_goto (tgt := 75) X dX10_isOther_71 (by decide) ?_
      have hr := Option.some.inj h
      subst hr
      exact V_end_z hX (Or.inr rfl) rfl dX10_isOther_75
    · refine V_iload_n X dX10_isOther_20 0 rfl ?_
      obtain ⟨sa21_, hksa21_, hssa21_⟩ := (xok_sf X).str 26 (by decide) q1826
      replace hssa21_ : STR (xb x) sa21_ tx_yard x.1.2.2.2.2.1 x.1.2.2.2.2.1.heap := hssa21_
      refine V_ldcSw X hksa21_ dX10_isOther_21 ?_
      obtain ⟨c24, hc24, h⟩ := bind_some_eq h
      refine V_callSE (As := [.ref sa21_]) (rest := [vI l0]) (s1 := [vI c24, vI l0]) X (con_m_of N sa21_ tx_yard as_yard g c24 hc24) STR.blind (str_on X hssa21_) gwX10_of hdX10_of (by decide) rfl rfl (Nat.le_of_ble_eq_true rfl) ⟨Nat.zero_le _, Nat.zero_le _⟩ dX10_isOther_24 rfl rfl ?_
      refine V_icmp_eq (tgt := 70) X dX10_isOther_27 (by decide) h (fun h => ?_) (fun h => ?_)
      · refine V_iconst X dX10_isOther_70 ?_
        refine V_goto (tgt := 75) X dX10_isOther_71 (by decide) ?_
        have hr := Option.some.inj h
        subst hr
        exact V_end_z hX (Or.inr rfl) rfl dX10_isOther_75
      · refine V_iload_n X dX10_isOther_30 0 rfl ?_
        obtain ⟨sa31_, hksa31_, hssa31_⟩ := (xok_sf X).str 27 (by decide) q1827
        replace hssa31_ : STR (xb x) sa31_ tx_load x.1.2.2.2.2.1 x.1.2.2.2.2.1.heap := hssa31_
        refine V_ldcSw X hksa31_ dX10_isOther_31 ?_
        obtain ⟨c34, hc34, h⟩ := bind_some_eq h
        refine V_callSE (As := [.ref sa31_]) (rest := [vI l0]) (s1 := [vI c34, vI l0]) X (con_m_of N sa31_ tx_load as_load g c34 hc34) STR.blind (str_on X hssa31_) gwX10_of hdX10_of (by decide) rfl rfl (Nat.le_of_ble_eq_true rfl) ⟨Nat.zero_le _, Nat.zero_le _⟩ dX10_isOther_34 rfl rfl ?_
        refine V_icmp_eq (tgt := 70) X dX10_isOther_37 (by decide) h (fun h => ?_) (fun h => ?_)
        · refine V_iconst X dX10_isOther_70 ?_
          refine V_goto (tgt := 75) X dX10_isOther_71 (by decide) ?_
          have hr := Option.some.inj h
          subst hr
          exact V_end_z hX (Or.inr rfl) rfl dX10_isOther_75
        · refine V_iload_n X dX10_isOther_40 0 rfl ?_
          obtain ⟨sa41_, hksa41_, hssa41_⟩ := (xok_sf X).str 28 (by decide) q1828
          replace hssa41_ : STR (xb x) sa41_ tx_stops x.1.2.2.2.2.1 x.1.2.2.2.2.1.heap := hssa41_
          refine V_ldcSw X hksa41_ dX10_isOther_41 ?_
          obtain ⟨c44, hc44, h⟩ := bind_some_eq h
          refine V_callSE (As := [.ref sa41_]) (rest := [vI l0]) (s1 := [vI c44, vI l0]) X (con_m_of N sa41_ tx_stops as_stops g c44 hc44) STR.blind (str_on X hssa41_) gwX10_of hdX10_of (by decide) rfl rfl (Nat.le_of_ble_eq_true rfl) ⟨Nat.zero_le _, Nat.zero_le _⟩ dX10_isOther_44 rfl rfl ?_
          refine V_icmp_eq (tgt := 70) X dX10_isOther_47 (by decide) h (fun h => ?_) (fun h => ?_)
          · refine V_iconst X dX10_isOther_70 ?_
            refine V_goto (tgt := 75) X dX10_isOther_71 (by decide) ?_
            have hr := Option.some.inj h
            subst hr
            exact V_end_z hX (Or.inr rfl) rfl dX10_isOther_75
          · refine V_iload_n X dX10_isOther_50 0 rfl ?_
            obtain ⟨sa51_, hksa51_, hssa51_⟩ := (xok_sf X).str 29 (by decide) q1829
            replace hssa51_ : STR (xb x) sa51_ tx_loses x.1.2.2.2.2.1 x.1.2.2.2.2.1.heap := hssa51_
            refine V_ldcSw X hksa51_ dX10_isOther_51 ?_
            obtain ⟨c54, hc54, h⟩ := bind_some_eq h
            refine V_callSE (As := [.ref sa51_]) (rest := [vI l0]) (s1 := [vI c54, vI l0]) X (con_m_of N sa51_ tx_loses as_loses g c54 hc54) STR.blind (str_on X hssa51_) gwX10_of hdX10_of (by decide) rfl rfl (Nat.le_of_ble_eq_true rfl) ⟨Nat.zero_le _, Nat.zero_le _⟩ dX10_isOther_54 rfl rfl ?_
            refine V_icmp_eq (tgt := 70) X dX10_isOther_57 (by decide) h (fun h => ?_) (fun h => ?_)
            · refine V_iconst X dX10_isOther_70 ?_
              refine V_goto (tgt := 75) X dX10_isOther_71 (by decide) ?_
              have hr := Option.some.inj h
              subst hr
              exact V_end_z hX (Or.inr rfl) rfl dX10_isOther_75
            · refine V_iload_n X dX10_isOther_60 0 rfl ?_
              obtain ⟨sa61_, hksa61_, hssa61_⟩ := (xok_sf X).str 31 (by decide) q1830
              replace hssa61_ : STR (xb x) sa61_ tx_soft x.1.2.2.2.2.1 x.1.2.2.2.2.1.heap := hssa61_
              refine V_ldcSw X hksa61_ dX10_isOther_61 ?_
              obtain ⟨c64, hc64, h⟩ := bind_some_eq h
              refine V_callSE (As := [.ref sa61_]) (rest := [vI l0]) (s1 := [vI c64, vI l0]) X (con_m_of N sa61_ tx_soft as_soft g c64 hc64) STR.blind (str_on X hssa61_) gwX10_of hdX10_of (by decide) rfl rfl (Nat.le_of_ble_eq_true rfl) ⟨Nat.zero_le _, Nat.zero_le _⟩ dX10_isOther_64 rfl rfl ?_
              refine V_icmp_ne (tgt := 74) X dX10_isOther_67 (by decide) h (fun h => ?_) (fun h => ?_)
              · refine V_iconst X dX10_isOther_74 ?_
                have hr := Option.some.inj h
                subst hr
                exact V_end_z hX (Or.inl rfl) rfl dX10_isOther_75
              · refine V_iconst X dX10_isOther_70 ?_
                refine V_goto (tgt := 75) X dX10_isOther_71 (by decide) ?_
                have hr := Option.some.inj h
                subst hr
                exact V_end_z hX (Or.inr rfl) rfl dX10_isOther_75
set_option maxHeartbeats 4000000 in
theorem con_m_isFull (N : Nat) (g : GS) (l1 : Int) (r : Int) (h : m_isFull N g l1 = some r) : Con yX10_isFull cX10_isFull 2 (some .boolean) 7 222 Km (fun b => [.ref (b + 0), vI l1]) g (fun _ => some (vI r)) g := by
  refine Con.of RX10 (by decide) rfl (fun b => Nat.le_of_ble_eq_true rfl) (fun x sz hX => ?_)
  have X := hX.1
  unfold m_isFull at h
  show V x 2 Km 0 0 sz g 0 [(0, .ref (xb x + 0)), (1, vI l1)] []
  refine V_iload_n X dX10_isFull_0 1 rfl ?_
  obtain ⟨sa1_, hksa1_, hssa1_⟩ := (xok_sf X).str 20 (by decide) q1811
  replace hssa1_ : STR (xb x) sa1_ tx_person x.1.2.2.2.2.1 x.1.2.2.2.2.1.heap := hssa1_
  refine V_ldcS X hksa1_ dX10_isFull_1 ?_
  obtain ⟨c3, hc3, h⟩ := bind_some_eq h
  refine V_callSE (As := [.ref sa1_]) (rest := [vI l1]) (s1 := [vI c3, vI l1]) X (con_m_of N sa1_ tx_person as_person g c3 hc3) STR.blind (str_on X hssa1_) gwX10_of hdX10_of (by decide) rfl rfl (Nat.le_of_ble_eq_true rfl) ⟨Nat.zero_le _, Nat.zero_le _⟩ dX10_isFull_3 rfl rfl ?_
  refine V_icmp_ne (tgt := 23) X dX10_isFull_6 (by decide) h (fun h => ?_) (fun h => ?_)
  · refine V_iload_n X dX10_isFull_23 1 rfl ?_
    obtain ⟨sa24_, hksa24_, hssa24_⟩ := (xok_sf X).str 21 (by decide) q1817
    replace hssa24_ : STR (xb x) sa24_ tx_deed x.1.2.2.2.2.1 x.1.2.2.2.2.1.heap := hssa24_
    refine V_ldcSw X hksa24_ dX10_isFull_24 ?_
    obtain ⟨c27, hc27, h⟩ := bind_some_eq h
    refine V_callSE (As := [.ref sa24_]) (rest := [vI l1]) (s1 := [vI c27, vI l1]) X (con_m_of N sa24_ tx_deed as_deed g c27 hc27) STR.blind (str_on X hssa24_) gwX10_of hdX10_of (by decide) rfl rfl (Nat.le_of_ble_eq_true rfl) ⟨Nat.zero_le _, Nat.zero_le _⟩ dX10_isFull_27 rfl rfl ?_
    refine V_icmp_ne (tgt := 48) X dX10_isFull_30 (by decide) h (fun h => ?_) (fun h => ?_)
    · refine V_iload_n X dX10_isFull_48 1 rfl ?_
      obtain ⟨sa49_, hksa49_, hssa49_⟩ := (xok_sf X).str 25 (by decide) q1825
      replace hssa49_ : STR (xb x) sa49_ tx_rain x.1.2.2.2.2.1 x.1.2.2.2.2.1.heap := hssa49_
      refine V_ldcSw X hksa49_ dX10_isFull_49 ?_
      obtain ⟨c52, hc52, h⟩ := bind_some_eq h
      refine V_callSE (As := [.ref sa49_]) (rest := [vI l1]) (s1 := [vI c52, vI l1]) X (con_m_of N sa49_ tx_rain as_rain g c52 hc52) STR.blind (str_on X hssa49_) gwX10_of hdX10_of (by decide) rfl rfl (Nat.le_of_ble_eq_true rfl) ⟨Nat.zero_le _, Nat.zero_le _⟩ dX10_isFull_52 rfl rfl ?_
      refine V_icmp_ne (tgt := 73) X dX10_isFull_55 (by decide) h (fun h => ?_) (fun h => ?_)
      · refine V_iload_n X dX10_isFull_73 1 rfl ?_
        obtain ⟨sa74_, hksa74_, hssa74_⟩ := (xok_sf X).str 22 (by decide) q1818
        replace hssa74_ : STR (xb x) sa74_ tx_board x.1.2.2.2.2.1 x.1.2.2.2.2.1.heap := hssa74_
        refine V_ldcSw X hksa74_ dX10_isFull_74 ?_
        obtain ⟨c77, hc77, h⟩ := bind_some_eq h
        refine V_callSE (As := [.ref sa74_]) (rest := [vI l1]) (s1 := [vI c77, vI l1]) X (con_m_of N sa74_ tx_board as_board g c77 hc77) STR.blind (str_on X hssa74_) gwX10_of hdX10_of (by decide) rfl rfl (Nat.le_of_ble_eq_true rfl) ⟨Nat.zero_le _, Nat.zero_le _⟩ dX10_isFull_77 rfl rfl ?_
        refine V_icmp_ne (tgt := 98) X dX10_isFull_80 (by decide) h (fun h => ?_) (fun h => ?_)
        · refine V_iload_n X dX10_isFull_98 1 rfl ?_
          obtain ⟨sa99_, hksa99_, hssa99_⟩ := (xok_sf X).str 23 (by decide) q1819
          replace hssa99_ : STR (xb x) sa99_ tx_nut x.1.2.2.2.2.1 x.1.2.2.2.2.1.heap := hssa99_
          refine V_ldcSw X hksa99_ dX10_isFull_99 ?_
          obtain ⟨c102, hc102, h⟩ := bind_some_eq h
          refine V_callSE (As := [.ref sa99_]) (rest := [vI l1]) (s1 := [vI c102, vI l1]) X (con_m_of N sa99_ tx_nut as_nut g c102 hc102) STR.blind (str_on X hssa99_) gwX10_of hdX10_of (by decide) rfl rfl (Nat.le_of_ble_eq_true rfl) ⟨Nat.zero_le _, Nat.zero_le _⟩ dX10_isFull_102 rfl rfl ?_
          refine V_icmp_ne (tgt := 123) X dX10_isFull_105 (by decide) h (fun h => ?_) (fun h => ?_)
          · refine V_iload_n X dX10_isFull_123 1 rfl ?_
            obtain ⟨sa124_, hksa124_, hssa124_⟩ := (xok_sf X).str 30 (by decide) q1820
            replace hssa124_ : STR (xb x) sa124_ tx_cause x.1.2.2.2.2.1 x.1.2.2.2.2.1.heap := hssa124_
            refine V_ldcSw X hksa124_ dX10_isFull_124 ?_
            obtain ⟨c127, hc127, h⟩ := bind_some_eq h
            refine V_callSE (As := [.ref sa124_]) (rest := [vI l1]) (s1 := [vI c127, vI l1]) X (con_m_of N sa124_ tx_cause as_cause g c127 hc127) STR.blind (str_on X hssa124_) gwX10_of hdX10_of (by decide) rfl rfl (Nat.le_of_ble_eq_true rfl) ⟨Nat.zero_le _, Nat.zero_le _⟩ dX10_isFull_127 rfl rfl ?_
            refine V_icmp_ne (tgt := 145) X dX10_isFull_130 (by decide) h (fun h => ?_) (fun h => ?_)
            · refine V_iconst X dX10_isFull_145 ?_
              have hr := Option.some.inj h
              subst hr
              exact V_end_z hX (Or.inl rfl) rfl dX10_isFull_146
            · refine V_aload_n X dX10_isFull_133 0 rfl ?_
              refine getX10 X (o := 0) (j := 31) rfl (by decide) q1579 (fv_0 rfl) dX10_isFull_134 ?_
              refine V_iconst X dX10_isFull_137 ?_
              refine V_icmp_ne (tgt := 145) X dX10_isFull_138 (by decide) h (fun h => ?_) (fun h => ?_)
              · refine V_iconst X dX10_isFull_145 ?_
                have hr := Option.some.inj h
                subst hr
                exact V_end_z hX (Or.inl rfl) rfl dX10_isFull_146
              · refine V_iconst X dX10_isFull_141 ?_
                refine V_goto (tgt := 146) X dX10_isFull_142 (by decide) ?_
                have hr := Option.some.inj h
                subst hr
                exact V_end_z hX (Or.inr rfl) rfl dX10_isFull_146
          · refine V_aload_n X dX10_isFull_108 0 rfl ?_
            refine getX10 X (o := 0) (j := 30) rfl (by decide) q1578 (fv_0 rfl) dX10_isFull_109 ?_
            refine V_bipush X dX10_isFull_112 (by decide) ?_
            refine V_icmp_ne (tgt := 121) X dX10_isFull_114 (by decide) h (fun h => ?_) (fun h => ?_)
            · refine V_iconst X dX10_isFull_121 ?_
              have hr := Option.some.inj h
              subst hr
              exact V_end_z hX (Or.inl rfl) rfl dX10_isFull_122
            · refine V_iconst X dX10_isFull_117 ?_
              refine V_goto (tgt := 122) X dX10_isFull_118 (by decide) ?_
              have hr := Option.some.inj h
              subst hr
              exact V_end_z hX (Or.inr rfl) rfl dX10_isFull_122
        · refine V_aload_n X dX10_isFull_83 0 rfl ?_
          refine getX10 X (o := 0) (j := 29) rfl (by decide) q1577 (fv_0 rfl) dX10_isFull_84 ?_
          refine V_bipush X dX10_isFull_87 (by decide) ?_
          refine V_icmp_ne (tgt := 96) X dX10_isFull_89 (by decide) h (fun h => ?_) (fun h => ?_)
          · refine V_iconst X dX10_isFull_96 ?_
            have hr := Option.some.inj h
            subst hr
            exact V_end_z hX (Or.inl rfl) rfl dX10_isFull_97
          · refine V_iconst X dX10_isFull_92 ?_
            refine V_goto (tgt := 97) X dX10_isFull_93 (by decide) ?_
            have hr := Option.some.inj h
            subst hr
            exact V_end_z hX (Or.inr rfl) rfl dX10_isFull_97
      · refine V_aload_n X dX10_isFull_58 0 rfl ?_
        refine getX10 X (o := 0) (j := 28) rfl (by decide) q1576 (fv_0 rfl) dX10_isFull_59 ?_
        refine V_bipush X dX10_isFull_62 (by decide) ?_
        refine V_icmp_ne (tgt := 71) X dX10_isFull_64 (by decide) h (fun h => ?_) (fun h => ?_)
        · refine V_iconst X dX10_isFull_71 ?_
          have hr := Option.some.inj h
          subst hr
          exact V_end_z hX (Or.inl rfl) rfl dX10_isFull_72
        · refine V_iconst X dX10_isFull_67 ?_
          refine V_goto (tgt := 72) X dX10_isFull_68 (by decide) ?_
          have hr := Option.some.inj h
          subst hr
          exact V_end_z hX (Or.inr rfl) rfl dX10_isFull_72
    · refine V_aload_n X dX10_isFull_33 0 rfl ?_
      refine getX10 X (o := 0) (j := 27) rfl (by decide) q1575 (fv_0 rfl) dX10_isFull_34 ?_
      refine V_bipush X dX10_isFull_37 (by decide) ?_
      refine V_icmp_ne (tgt := 46) X dX10_isFull_39 (by decide) h (fun h => ?_) (fun h => ?_)
      · refine V_iconst X dX10_isFull_46 ?_
        have hr := Option.some.inj h
        subst hr
        exact V_end_z hX (Or.inl rfl) rfl dX10_isFull_47
      · refine V_iconst X dX10_isFull_42 ?_
        refine V_goto (tgt := 47) X dX10_isFull_43 (by decide) ?_
        have hr := Option.some.inj h
        subst hr
        exact V_end_z hX (Or.inr rfl) rfl dX10_isFull_47
  · refine V_aload_n X dX10_isFull_9 0 rfl ?_
    refine getX10 X (o := 0) (j := 26) rfl (by decide) q1574 (fv_0 rfl) dX10_isFull_10 ?_
    refine V_iconst X dX10_isFull_13 ?_
    refine V_icmp_ne (tgt := 21) X dX10_isFull_14 (by decide) h (fun h => ?_) (fun h => ?_)
    · refine V_iconst X dX10_isFull_21 ?_
      have hr := Option.some.inj h
      subst hr
      exact V_end_z hX (Or.inl rfl) rfl dX10_isFull_22
    · refine V_iconst X dX10_isFull_17 ?_
      refine V_goto (tgt := 22) X dX10_isFull_18 (by decide) ?_
      have hr := Option.some.inj h
      subst hr
      exact V_end_z hX (Or.inr rfl) rfl dX10_isFull_22
set_option maxHeartbeats 4000000 in
theorem con_m_road (N : Nat) (g : GS) (l1 : Int) (r : (Int × GS)) (h : m_road N g l1 = some r) : Con yX10_road cX10_road 4 (some .int) 8 246 Km (fun b => [.ref (b + 0), vI l1]) g (fun _ => some (vI r.1)) r.2 := by
  refine Con.of RX10 (by decide) rfl (fun b => Nat.le_of_ble_eq_true rfl) (fun x sz hX => ?_)
  have X := hX.1
  have J158 : ∀ (g : GS), m_road_j158 N g = some r → V x 4 Km 0 0 sz g 158 [(0, .ref (xb x + 0))] [] := by
    intro g h
    unfold m_road_j158 at h
    refine V_aload_n X dX10_road_158 0 rfl ?_
    refine V_aload_n X dX10_road_159 0 rfl ?_
    refine getX10 X (o := 0) (j := 27) rfl (by decide) q1575 (fv_0 rfl) dX10_road_160 ?_
    obtain ⟨c163, hc163, h⟩ := bind_some_eq h
    refine V_callV (As := [vI (gI g 927 0)]) (rest := []) (s1 := [vI c163.1]) (o := 0) X (con_m_result g (gI g 927 0) c163 hc163) gwX10_result hdX10_result (by decide) rfl (by decide) rfl rfl rfl (Nat.le_of_ble_eq_true rfl) ⟨Nat.zero_le _, Nat.zero_le _⟩ dX10_road_163 rfl rfl ?_
    refine V_istore_n X dX10_road_166 (by decide) (L' := [(3, vI c163.1), (0, .ref (xb x + 0))]) rfl ?_
    refine V_aload_n X dX10_road_167 1 rfl ?_
    refine getX10 X (o := 0) (j := 5) rfl (by decide) q1553 (fv_0 rfl) dX10_road_168 ?_
    refine V_iconst X dX10_road_171 ?_
    refine V_icmp_ne (tgt := 179) X dX10_road_172 (by decide) h (fun h => ?_) (fun h => ?_)
    · refine V_iload_n X dX10_road_179 0 rfl ?_
      have hr := Option.some.inj h
      subst hr
      exact V_end_i hX rfl dX10_road_180
    · refine V_aload_n X dX10_road_175 1 rfl ?_
      obtain ⟨c176, hc176, h⟩ := bind_some_eq h
      refine V_callV (As := []) (rest := []) (s1 := []) (o := 0) X (con_m_sets N c163.2 c176 hc176) gwX10_sets hdX10_sets (by decide) rfl (by decide) rfl rfl rfl (Nat.le_of_ble_eq_true rfl) ⟨Nat.zero_le _, Nat.zero_le _⟩ dX10_road_176 rfl rfl ?_
      refine V_iload_n X dX10_road_179 0 rfl ?_
      have hr := Option.some.inj h
      subst hr
      exact V_end_i hX rfl dX10_road_180
  have LL44 : ∀  (n : Nat) (s : (GS × Int)) (e : (GS)), loopN (fun s => m_road_b44 N s.1 s.2) n s = some e → V x 4 Km 0 0 sz e 158 [(0, .ref (xb x + 0))] [] → V x 4 Km 0 0 sz s.1 44 [(0, .ref (xb x + 0)), (2, vI s.2)] [] := by
    intro  n s e
    refine loop_walk (P := fun s => V x 4 Km 0 0 sz s.1 44 [(0, .ref (xb x + 0)), (2, vI s.2)] []) (E := fun e => V x 4 Km 0 0 sz e 158 [(0, .ref (xb x + 0))] []) ?_ n s e
    clear e s n
    rintro ⟨g, l2⟩ q44 h hc44 he44
    replace h : m_road_b44 N g l2 = some q44 := h
    have J146 : ∀ (g : GS) (l2 : Int), m_road_j146 N g l2 = some q44 → V x 4 Km 0 0 sz g 146 [(0, .ref (xb x + 0)), (2, vI l2)] [] := by
      intro g l2 h
      unfold m_road_j146 at h
      refine V_aload_n X dX10_road_146 0 rfl ?_
      refine V_bipush X dX10_road_147 (by decide) ?_
      obtain ⟨c149, hc149, h⟩ := bind_some_eq h
      refine V_callV (As := [vI 59]) (rest := []) (s1 := []) (o := 0) X (con_m_sign N g 59 c149 hc149) gwX10_sign hdX10_sign (by decide) rfl (by decide) rfl rfl rfl (Nat.le_of_ble_eq_true rfl) ⟨Nat.zero_le _, Nat.zero_le _⟩ dX10_road_149 rfl rfl ?_
      refine V_iinc X dX10_road_152 1 rfl (by decide) (L' := [(2, vI (l2 + 1)), (0, .ref (xb x + 0))]) rfl ?_
      refine V_goto (tgt := 44) X dX10_road_155 (by decide) ?_
      exact V_sub [1, 0] rfl (hc44 _ (Option.some.inj h).symm)
    have J112 : ∀ (g : GS) (l2 : Int) (l3 : Int), m_road_j112 N g l2 l3 = some q44 → V x 4 Km 0 0 sz g 112 [(0, .ref (xb x + 0)), (2, vI l2), (3, vI l3)] [] := by
      intro g l2 l3 h
      unfold m_road_j112 at h
      refine V_aload_n X dX10_road_112 0 rfl ?_
      obtain ⟨c113, hc113, h⟩ := bind_some_eq h
      refine V_callV (As := []) (rest := []) (s1 := [vI c113]) (o := 0) X (con_m_fine g c113 hc113) gwX10_fine hdX10_fine (by decide) rfl (by decide) rfl rfl rfl (Nat.le_of_ble_eq_true rfl) ⟨Nat.zero_le _, Nat.zero_le _⟩ dX10_road_113 rfl rfl ?_
      refine V_if_ne (tgt := 122) X dX10_road_116 (by decide) h (fun h => ?_) (fun h => ?_)
      · refine V_aload_n X dX10_road_122 0 rfl ?_
        obtain ⟨c123, hc123, h⟩ := bind_some_eq h
        refine V_callV (As := []) (rest := []) (s1 := []) (o := 0) X (con_m_pass N g c123 hc123) gwX10_pass hdX10_pass (by decide) rfl (by decide) rfl rfl rfl (Nat.le_of_ble_eq_true rfl) ⟨Nat.zero_le _, Nat.zero_le _⟩ dX10_road_123 rfl rfl ?_
        refine V_iload_n X dX10_road_126 2 rfl ?_
        obtain ⟨c127, hc127, h⟩ := bind_some_eq h
        refine V_callS (As := [vI l3]) (rest := []) (s1 := [vI c127]) X (con_m_isThing N c123 l3 c127 hc127) gwX10_isThing hdX10_isThing (by decide) rfl rfl (Nat.le_of_ble_eq_true rfl) ⟨Nat.zero_le _, Nat.zero_le _⟩ dX10_road_127 rfl rfl ?_
        refine V_if_eq (tgt := 141) X dX10_road_130 (by decide) h (fun h => ?_) (fun h => ?_)
        · refine V_aload_n X dX10_road_141 0 rfl ?_
          refine V_iload_n X dX10_road_142 2 rfl ?_
          obtain ⟨c143, hc143, h⟩ := bind_some_eq h
          refine V_callV (As := [vI l3]) (rest := []) (s1 := []) (o := 0) X (con_m_readOthers N c123 l3 c143 hc143) gwX10_readOthers hdX10_readOthers (by decide) rfl (by decide) rfl rfl rfl (Nat.le_of_ble_eq_true rfl) ⟨Nat.zero_le _, Nat.zero_le _⟩ dX10_road_143 rfl rfl ?_
          exact V_sub [0, 1] rfl (J146 _ _ h)
        · refine V_aload_n X dX10_road_133 0 rfl ?_
          refine V_iload_n X dX10_road_134 2 rfl ?_
          obtain ⟨c135, hc135, h⟩ := bind_some_eq h
          refine V_callV (As := [vI l3]) (rest := []) (s1 := []) (o := 0) X (con_m_readThings N c123 l3 c135 hc135) gwX10_readThings hdX10_readThings (by decide) rfl (by decide) rfl rfl rfl (Nat.le_of_ble_eq_true rfl) ⟨Nat.zero_le _, Nat.zero_le _⟩ dX10_road_135 rfl rfl ?_
          refine V_goto (tgt := 146) X dX10_road_138 (by decide) ?_
          exact V_sub [0, 1] rfl (J146 _ _ h)
      · refine V_goto (tgt := 158) X dX10_road_119 (by decide) ?_
        exact V_sub [0] rfl (he44 _ (Option.some.inj h).symm)
    have J103 : ∀ (g : GS) (l2 : Int) (l3 : Int), m_road_j103 N g l2 l3 = some q44 → V x 4 Km 0 0 sz g 103 [(0, .ref (xb x + 0)), (2, vI l2), (3, vI l3)] [] := by
      intro g l2 l3 h
      unfold m_road_j103 at h
      refine V_aload_n X dX10_road_103 0 rfl ?_
      refine V_iconst X dX10_road_104 ?_
      refine V_aload_n X dX10_road_105 0 rfl ?_
      refine getX10 X (o := 0) (j := 4) rfl (by decide) q1552 (fv_0 rfl) dX10_road_106 ?_
      obtain ⟨c109, hc109, h⟩ := bind_some_eq h
      refine V_callV (As := [vI 3, vI (gI g 904 0)]) (rest := []) (s1 := []) (o := 0) X (con_m_wrong g 3 (gI g 904 0) c109 hc109) gwX10_wrong hdX10_wrong (by decide) rfl (by decide) rfl rfl rfl (Nat.le_of_ble_eq_true rfl) ⟨Nat.zero_le _, Nat.zero_le _⟩ dX10_road_109 rfl rfl ?_
      exact V_sub [0, 1, 2] rfl (J112 _ _ _ h)
    have J89 : ∀ (g : GS) (l2 : Int) (l3 : Int), m_road_j89 N g l2 l3 = some q44 → V x 4 Km 0 0 sz g 89 [(0, .ref (xb x + 0)), (2, vI l2), (3, vI l3)] [] := by
      intro g l2 l3 h
      unfold m_road_j89 at h
      refine V_iload_n X dX10_road_89 1 rfl ?_
      refine V_bipush X dX10_road_90 (by decide) ?_
      refine V_icmp_eq (tgt := 103) X dX10_road_92 (by decide) h (fun h => ?_) (fun h => ?_)
      · exact V_sub [0, 1, 2] rfl (J103 _ _ _ h)
      · refine V_aload_n X dX10_road_95 0 rfl ?_
        refine V_iload_n X dX10_road_96 2 rfl ?_
        obtain ⟨c97, hc97, h⟩ := bind_some_eq h
        refine V_callV (As := [vI l3]) (rest := []) (s1 := [vI c97]) (o := 0) X (con_m_isFull N g l3 c97 hc97) gwX10_isFull hdX10_isFull (by decide) rfl (by decide) rfl rfl rfl (Nat.le_of_ble_eq_true rfl) ⟨Nat.zero_le _, Nat.zero_le _⟩ dX10_road_97 rfl rfl ?_
        refine V_if_eq (tgt := 112) X dX10_road_100 (by decide) h (fun h => ?_) (fun h => ?_)
        · exact V_sub [0, 1, 2] rfl (J112 _ _ _ h)
        · exact V_sub [0, 1, 2] rfl (J103 _ _ _ h)
    unfold m_road_b44 at h
    show V x 4 Km 0 0 sz g 44 [(0, .ref (xb x + 0)), (2, vI l2)] []
    refine V_aload_n X dX10_road_44 0 rfl ?_
    obtain ⟨c45, hc45, h⟩ := bind_some_eq h
    refine V_callV (As := []) (rest := []) (s1 := [vI c45]) (o := 0) X (con_m_fine g c45 hc45) gwX10_fine hdX10_fine (by decide) rfl (by decide) rfl rfl rfl (Nat.le_of_ble_eq_true rfl) ⟨Nat.zero_le _, Nat.zero_le _⟩ dX10_road_45 rfl rfl ?_
    refine V_if_eq (tgt := 158) X dX10_road_48 (by decide) h (fun h => ?_) (fun h => ?_)
    · exact V_sub [0] rfl (he44 _ (Option.some.inj h).symm)
    · refine V_aload_n X dX10_road_51 0 rfl ?_
      obtain ⟨c52, hc52, h⟩ := bind_some_eq h
      refine V_callV (As := []) (rest := []) (s1 := [vI c52.1]) (o := 0) X (con_m_isMore N g c52 hc52) gwX10_isMore hdX10_isMore (by decide) rfl (by decide) rfl rfl rfl (Nat.le_of_ble_eq_true rfl) ⟨Nat.zero_le _, Nat.zero_le _⟩ dX10_road_52 rfl rfl ?_
      refine V_if_eq (tgt := 158) X dX10_road_55 (by decide) h (fun h => ?_) (fun h => ?_)
      · exact V_sub [0] rfl (he44 _ (Option.some.inj h).symm)
      · refine V_aload_n X dX10_road_58 0 rfl ?_
        obtain ⟨c59, hc59, h⟩ := bind_some_eq h
        refine V_callV (As := []) (rest := []) (s1 := [vI c59.1]) (o := 0) X (con_m_word N c52.2 c59 hc59) gwX10_word hdX10_word (by decide) rfl (by decide) rfl rfl rfl (Nat.le_of_ble_eq_true rfl) ⟨Nat.zero_le _, Nat.zero_le _⟩ dX10_road_59 rfl rfl ?_
        refine V_istore_n X dX10_road_62 (by decide) (L' := [(3, vI c59.1), (0, .ref (xb x + 0)), (2, vI l2)]) rfl ?_
        refine V_iload_n X dX10_road_63 0 rfl ?_
        obtain ⟨c64, hc64, h⟩ := bind_some_eq h
        refine V_callS (As := [vI c59.1]) (rest := []) (s1 := [vI c64]) X (con_m_isThing N c59.2 c59.1 c64 hc64) gwX10_isThing hdX10_isThing (by decide) rfl rfl (Nat.le_of_ble_eq_true rfl) ⟨Nat.zero_le _, Nat.zero_le _⟩ dX10_road_64 rfl rfl ?_
        refine V_if_ne (tgt := 89) X dX10_road_67 (by decide) h (fun h => ?_) (fun h => ?_)
        · exact V_sub [1, 2, 0] rfl (J89 _ _ _ h)
        · refine V_iload_n X dX10_road_70 0 rfl ?_
          obtain ⟨c71, hc71, h⟩ := bind_some_eq h
          refine V_callS (As := [vI c59.1]) (rest := []) (s1 := [vI c71]) X (con_m_isOther N c59.2 c59.1 c71 hc71) gwX10_isOther hdX10_isOther (by decide) rfl rfl (Nat.le_of_ble_eq_true rfl) ⟨Nat.zero_le _, Nat.zero_le _⟩ dX10_road_71 rfl rfl ?_
          refine V_if_ne (tgt := 89) X dX10_road_74 (by decide) h (fun h => ?_) (fun h => ?_)
          · exact V_sub [1, 2, 0] rfl (J89 _ _ _ h)
          · refine V_aload_n X dX10_road_77 1 rfl ?_
            refine V_iconst X dX10_road_78 ?_
            refine V_aload_n X dX10_road_79 1 rfl ?_
            refine getX10 X (o := 0) (j := 4) rfl (by decide) q1552 (fv_0 rfl) dX10_road_80 ?_
            obtain ⟨c83, hc83, h⟩ := bind_some_eq h
            refine V_callV (As := [vI 1, vI (gI c59.2 904 0)]) (rest := []) (s1 := []) (o := 0) X (con_m_wrong c59.2 1 (gI c59.2 904 0) c83 hc83) gwX10_wrong hdX10_wrong (by decide) rfl (by decide) rfl rfl rfl (Nat.le_of_ble_eq_true rfl) ⟨Nat.zero_le _, Nat.zero_le _⟩ dX10_road_83 rfl rfl ?_
            refine V_goto (tgt := 112) X dX10_road_86 (by decide) ?_
            exact V_sub [1, 2, 0] rfl (J112 _ _ _ h)
  have J23 : ∀ (g : GS) (l1 : Int) (s0 : Int), m_road_j23 N g l1 s0 = some r → V x 4 Km 0 0 sz g 23 [(0, .ref (xb x + 0)), (1, vI l1)] [vI s0, .ref (xb x + 0)] := by
    intro g l1 s0 h
    unfold m_road_j23 at h
    refine V_iconst X dX10_road_23 ?_
    refine V_iconst X dX10_road_24 ?_
    obtain ⟨c25, hc25, h⟩ := bind_some_eq h
    refine V_callV (As := [vI s0, vI 1, vI 1]) (rest := []) (s1 := [vI c25.1]) (o := 0) X (con_m_may g s0 1 1 c25 hc25) gwX10_may hdX10_may (by decide) rfl (by decide) rfl rfl rfl (Nat.le_of_ble_eq_true rfl) ⟨Nat.zero_le _, Nat.zero_le _⟩ dX10_road_25 rfl rfl ?_
    refine V_if_ne (tgt := 33) X dX10_road_28 (by decide) h (fun h => ?_) (fun h => ?_)
    · refine V_aload_n X dX10_road_33 0 rfl ?_
      refine V_iload_n X dX10_road_34 1 rfl ?_
      obtain ⟨c35, hc35, h⟩ := bind_some_eq h
      refine V_callV (As := [vI l1]) (rest := []) (s1 := []) (o := 0) X (con_m_begins c25.2 l1 c35 hc35) gwX10_begins hdX10_begins (by decide) rfl (by decide) rfl rfl rfl (Nat.le_of_ble_eq_true rfl) ⟨Nat.zero_le _, Nat.zero_le _⟩ dX10_road_35 rfl rfl ?_
      refine V_aload_n X dX10_road_38 0 rfl ?_
      obtain ⟨c39, hc39, h⟩ := bind_some_eq h
      refine V_callV (As := []) (rest := []) (s1 := []) (o := 0) X (con_m_clears N c35 c39 hc39) gwX10_clears hdX10_clears (by decide) rfl (by decide) rfl rfl rfl (Nat.le_of_ble_eq_true rfl) ⟨Nat.zero_le _, Nat.zero_le _⟩ dX10_road_39 rfl rfl ?_
      refine V_iconst X dX10_road_42 ?_
      refine V_istore_n X dX10_road_43 (by decide) (L' := [(2, vI 0), (0, .ref (xb x + 0)), (1, vI l1)]) rfl ?_
      obtain ⟨t1, t1q, h⟩ := bind_some_eq h
      refine V_sub [1, 0] rfl (LL44 N (c39, 0) _ t1q ?_)
      exact V_sub [0] rfl (J158 _ h)
    · refine V_iconst X dX10_road_31 ?_
      have hr := Option.some.inj h
      subst hr
      exact V_end_i hX rfl dX10_road_32
  have J22 : ∀ (g : GS) (l1 : Int), m_road_j22 N g l1 = some r → V x 4 Km 0 0 sz g 22 [(0, .ref (xb x + 0)), (1, vI l1)] [.ref (xb x + 0)] := by
    intro g l1 h
    unfold m_road_j22 at h
    refine V_iconst X dX10_road_22 ?_
    exact V_sub [0, 1] rfl (J23 _ _ _ h)
  unfold m_road at h
  show V x 4 Km 0 0 sz g 0 [(0, .ref (xb x + 0)), (1, vI l1)] []
  refine V_aload_n X dX10_road_0 0 rfl ?_
  refine V_iconst X dX10_road_1 ?_
  refine putX10 X (o := 0) (j := 0) (a := 0) rfl (by decide) rfl rfl rfl q1548 dX10_road_2 ?_
  refine V_aload_n X dX10_road_5 0 rfl ?_
  refine V_iload_n X dX10_road_6 1 rfl ?_
  refine V_if_lt (tgt := 22) X dX10_road_7 (by decide) h (fun h => ?_) (fun h => ?_)
  · exact V_sub [0, 1] rfl (J22 _ _ h)
  · refine V_iload_n X dX10_road_10 1 rfl ?_
    refine V_aload_n X dX10_road_11 0 rfl ?_
    refine getX10 X (o := 0) (j := 2) rfl (by decide) q1550 (fv_0 rfl) dX10_road_12 ?_
    refine V_icmp_gt (tgt := 22) X dX10_road_15 (by decide) h (fun h => ?_) (fun h => ?_)
    · exact V_sub [0, 1] rfl (J22 _ _ h)
    · refine V_iconst X dX10_road_18 ?_
      refine V_goto (tgt := 23) X dX10_road_19 (by decide) ?_
      exact V_sub [0, 1] rfl (J23 _ _ _ h)
set_option maxHeartbeats 4000000 in
theorem con_m_emit (g : GS) (l1 : Int) (l2 : Int) (r : GS) (h : m_emit g l1 l2 = some r) : Con yX10_emit cX10_emit 3 none 2 32 Km (fun b => [.ref (b + 0), vI l1, vI l2]) g (fun _ => none) r := by
  refine Con.of RX10 (by decide) rfl (fun b => Nat.le_of_ble_eq_true rfl) (fun x sz hX => ?_)
  have X := hX.1
  unfold m_emit at h
  show V x 3 Km 0 0 sz g 0 [(0, .ref (xb x + 0)), (1, vI l1), (2, vI l2)] []
  refine V_aload_n X dX10_emit_0 0 rfl ?_
  obtain ⟨c1, hc1, h⟩ := bind_some_eq h
  refine V_callV (As := []) (rest := []) (s1 := [vI c1]) (o := 0) X (con_m_fine g c1 hc1) gwX10_fine hdX10_fine (by decide) rfl (by decide) rfl rfl rfl (Nat.le_of_ble_eq_true rfl) ⟨Nat.zero_le _, Nat.zero_le _⟩ dX10_emit_1 rfl rfl ?_
  refine V_if_ne (tgt := 8) X dX10_emit_4 (by decide) h (fun h => ?_) (fun h => ?_)
  · refine V_aload_n X dX10_emit_8 0 rfl ?_
    refine getX10 X (o := 0) (j := 37) rfl (by decide) q1585 (fv_1 (i := 19) rfl rfl) dX10_emit_9 ?_
    refine V_aload_n X dX10_emit_12 0 rfl ?_
    refine getX10 X (o := 0) (j := 42) rfl (by decide) q1590 (fv_0 rfl) dX10_emit_13 ?_
    refine V_iload_n X dX10_emit_16 1 rfl ?_
    refine V_iast X (o := 19) (n := 150) rfl (by decide) dX10_emit_17 h (fun g17 h => ?_)
    refine V_aload_n X dX10_emit_18 0 rfl ?_
    refine getX10 X (o := 0) (j := 38) rfl (by decide) q1586 (fv_1 (i := 20) rfl rfl) dX10_emit_19 ?_
    refine V_aload_n X dX10_emit_22 0 rfl ?_
    refine getX10 X (o := 0) (j := 42) rfl (by decide) q1590 (fv_0 rfl) dX10_emit_23 ?_
    refine V_iload_n X dX10_emit_26 2 rfl ?_
    refine V_iast X (o := 20) (n := 150) rfl (by decide) dX10_emit_27 h (fun g27 h => ?_)
    refine V_aload_n X dX10_emit_28 0 rfl ?_
    refine V_dup X dX10_emit_29 rfl ?_
    refine getX10 X (o := 0) (j := 42) rfl (by decide) q1590 (fv_0 rfl) dX10_emit_30 ?_
    refine V_iconst X dX10_emit_33 ?_
    refine V_iadd X dX10_emit_34 ?_
    refine putX10 X (o := 0) (j := 42) (a := ((gI g27 942 0) + 1)) rfl (by decide) rfl rfl rfl q1590 dX10_emit_35 ?_
    have hr := Option.some.inj h
    subst hr
    exact V_end_v hX rfl dX10_emit_38
  · have hr := Option.some.inj h
    subst hr
    exact V_end_v hX rfl dX10_emit_7
set_option maxHeartbeats 4000000 in
theorem con_m_opensOne (g : GS) (l1 : Int) (r : GS) (h : m_opensOne g l1 = some r) : Con yX10_opensOne cX10_opensOne 2 none 2 34 Km (fun b => [.ref (b + 0), vI l1]) g (fun _ => none) r := by
  refine Con.of RX10 (by decide) rfl (fun b => Nat.le_of_ble_eq_true rfl) (fun x sz hX => ?_)
  have X := hX.1
  have J42 : ∀ (g : GS), m_opensOne_j42 g = some r → V x 2 Km 0 0 sz g 42 [(0, .ref (xb x + 0))] [] := by
    intro g h
    unfold m_opensOne_j42 at h
    refine V_aload_n X dX10_opensOne_42 0 rfl ?_
    refine V_dup X dX10_opensOne_43 rfl ?_
    refine getX10 X (o := 0) (j := 7) rfl (by decide) q1555 (fv_0 rfl) dX10_opensOne_44 ?_
    refine V_iconst X dX10_opensOne_47 ?_
    refine V_iadd X dX10_opensOne_48 ?_
    refine putX10 X (o := 0) (j := 7) (a := ((gI g 907 0) + 1)) rfl (by decide) rfl rfl rfl q1555 dX10_opensOne_49 ?_
    have hr := Option.some.inj h
    subst hr
    exact V_end_v hX rfl dX10_opensOne_52
  have J25 : ∀ (g : GS) (l1 : Int), m_opensOne_j25 g l1 = some r → V x 2 Km 0 0 sz g 25 [(0, .ref (xb x + 0)), (1, vI l1)] [] := by
    intro g l1 h
    unfold m_opensOne_j25 at h
    refine V_aload_n X dX10_opensOne_25 0 rfl ?_
    obtain ⟨c26, hc26, h⟩ := bind_some_eq h
    refine V_callV (As := []) (rest := []) (s1 := [vI c26]) (o := 0) X (con_m_fine g c26 hc26) gwX10_fine hdX10_fine (by decide) rfl (by decide) rfl rfl rfl (Nat.le_of_ble_eq_true rfl) ⟨Nat.zero_le _, Nat.zero_le _⟩ dX10_opensOne_26 rfl rfl ?_
    refine V_if_eq (tgt := 42) X dX10_opensOne_29 (by decide) h (fun h => ?_) (fun h => ?_)
    · exact V_sub [0] rfl (J42 _ h)
    · refine V_aload_n X dX10_opensOne_32 0 rfl ?_
      refine V_dup X dX10_opensOne_33 rfl ?_
      refine getX10 X (o := 0) (j := 4) rfl (by decide) q1552 (fv_0 rfl) dX10_opensOne_34 ?_
      refine V_iload_n X dX10_opensOne_37 1 rfl ?_
      refine V_iadd X dX10_opensOne_38 ?_
      refine putX10 X (o := 0) (j := 4) (a := ((gI g 904 0) + l1)) rfl (by decide) rfl rfl rfl q1552 dX10_opensOne_39 ?_
      exact V_sub [0] rfl (J42 _ h)
  unfold m_opensOne at h
  show V x 2 Km 0 0 sz g 0 [(0, .ref (xb x + 0)), (1, vI l1)] []
  refine V_aload_n X dX10_opensOne_0 0 rfl ?_
  obtain ⟨c1, hc1, h⟩ := bind_some_eq h
  refine V_callV (As := []) (rest := []) (s1 := [vI c1]) (o := 0) X (con_m_fine g c1 hc1) gwX10_fine hdX10_fine (by decide) rfl (by decide) rfl rfl rfl (Nat.le_of_ble_eq_true rfl) ⟨Nat.zero_le _, Nat.zero_le _⟩ dX10_opensOne_1 rfl rfl ?_
  refine V_if_eq (tgt := 25) X dX10_opensOne_4 (by decide) h (fun h => ?_) (fun h => ?_)
  · exact V_sub [0, 1] rfl (J25 _ _ h)
  · refine V_aload_n X dX10_opensOne_7 0 rfl ?_
    refine getX10 X (o := 0) (j := 7) rfl (by decide) q1555 (fv_0 rfl) dX10_opensOne_8 ?_
    refine V_bipush X dX10_opensOne_11 (by decide) ?_
    refine V_icmp_ne (tgt := 25) X dX10_opensOne_13 (by decide) h (fun h => ?_) (fun h => ?_)
    · exact V_sub [0, 1] rfl (J25 _ _ h)
    · refine V_aload_n X dX10_opensOne_16 0 rfl ?_
      refine V_iconst X dX10_opensOne_17 ?_
      refine V_aload_n X dX10_opensOne_18 0 rfl ?_
      refine getX10 X (o := 0) (j := 4) rfl (by decide) q1552 (fv_0 rfl) dX10_opensOne_19 ?_
      obtain ⟨c22, hc22, h⟩ := bind_some_eq h
      refine V_callV (As := [vI 3, vI (gI g 904 0)]) (rest := []) (s1 := []) (o := 0) X (con_m_wrong g 3 (gI g 904 0) c22 hc22) gwX10_wrong hdX10_wrong (by decide) rfl (by decide) rfl rfl rfl (Nat.le_of_ble_eq_true rfl) ⟨Nat.zero_le _, Nat.zero_le _⟩ dX10_opensOne_22 rfl rfl ?_
      exact V_sub [0, 1] rfl (J25 _ _ h)
set_option maxHeartbeats 4000000 in
theorem con_m_readTwo_F (N : Nat) (fr lo : Nat) (R_readSum : GS → Option GS) (H_readSum : ∀ (g : GS) (r : GS), R_readSum g = some r → Con yX10_readSum cX10_readSum 2 none fr lo Km (fun b => [.ref (b + 0)]) g (fun _ => none) r) (g : GS) (l1 : Int) (l2 : Int) (r : GS) (h : m_readTwo_F N R_readSum g l1 l2 = some r) : Con yX10_readTwo cX10_readTwo 3 none (fr + 4) (lo + 95) Km (fun b => [.ref (b + 0), vI l1, vI l2]) g (fun _ => none) r := by
  refine Con.of RX10 (by decide) rfl (fun b => Nat.le_of_ble_eq_true rfl) (fun x sz hX => ?_)
  have X := hX.1
  unfold m_readTwo_F at h
  show V x 3 Km 0 0 sz g 0 [(0, .ref (xb x + 0)), (1, vI l1), (2, vI l2)] []
  refine V_aload_n X dX10_readTwo_0 0 rfl ?_
  refine V_iload_n X dX10_readTwo_1 1 rfl ?_
  obtain ⟨c2, hc2, h⟩ := bind_some_eq h
  refine V_callV (As := [vI l1]) (rest := []) (s1 := []) (o := 0) X (con_m_opensOne g l1 c2 hc2) gwX10_opensOne hdX10_opensOne ⟨by dsimp only; omega, by dsimp only; omega⟩ rfl (by decide) rfl rfl rfl (Nat.le_of_ble_eq_true rfl) ⟨Nat.zero_le _, Nat.zero_le _⟩ dX10_readTwo_2 rfl rfl ?_
  refine V_aload_n X dX10_readTwo_5 0 rfl ?_
  refine V_bipush X dX10_readTwo_6 (by decide) ?_
  obtain ⟨c8, hc8, h⟩ := bind_some_eq h
  refine V_callV (As := [vI 91]) (rest := []) (s1 := []) (o := 0) X (con_m_sign N c2 91 c8 hc8) gwX10_sign hdX10_sign ⟨by dsimp only; omega, by dsimp only; omega⟩ rfl (by decide) rfl rfl rfl (Nat.le_of_ble_eq_true rfl) ⟨Nat.zero_le _, Nat.zero_le _⟩ dX10_readTwo_8 rfl rfl ?_
  refine V_aload_n X dX10_readTwo_11 0 rfl ?_
  obtain ⟨c12, hc12, h⟩ := bind_some_eq h
  refine V_callV (As := []) (rest := []) (s1 := []) (o := 0) X (H_readSum c8 c12 hc12) gwX10_readSum hdX10_readSum ⟨by dsimp only; omega, by dsimp only; omega⟩ rfl (by decide) rfl rfl rfl (Nat.le_of_ble_eq_true rfl) ⟨Nat.zero_le _, Nat.zero_le _⟩ dX10_readTwo_12 rfl rfl ?_
  refine V_aload_n X dX10_readTwo_15 0 rfl ?_
  refine V_bipush X dX10_readTwo_16 (by decide) ?_
  obtain ⟨c18, hc18, h⟩ := bind_some_eq h
  refine V_callV (As := [vI 44]) (rest := []) (s1 := []) (o := 0) X (con_m_sign N c12 44 c18 hc18) gwX10_sign hdX10_sign ⟨by dsimp only; omega, by dsimp only; omega⟩ rfl (by decide) rfl rfl rfl (Nat.le_of_ble_eq_true rfl) ⟨Nat.zero_le _, Nat.zero_le _⟩ dX10_readTwo_18 rfl rfl ?_
  refine V_aload_n X dX10_readTwo_21 0 rfl ?_
  obtain ⟨c22, hc22, h⟩ := bind_some_eq h
  refine V_callV (As := []) (rest := []) (s1 := []) (o := 0) X (H_readSum c18 c22 hc22) gwX10_readSum hdX10_readSum ⟨by dsimp only; omega, by dsimp only; omega⟩ rfl (by decide) rfl rfl rfl (Nat.le_of_ble_eq_true rfl) ⟨Nat.zero_le _, Nat.zero_le _⟩ dX10_readTwo_22 rfl rfl ?_
  refine V_aload_n X dX10_readTwo_25 0 rfl ?_
  refine V_bipush X dX10_readTwo_26 (by decide) ?_
  obtain ⟨c28, hc28, h⟩ := bind_some_eq h
  refine V_callV (As := [vI 93]) (rest := []) (s1 := []) (o := 0) X (con_m_sign N c22 93 c28 hc28) gwX10_sign hdX10_sign ⟨by dsimp only; omega, by dsimp only; omega⟩ rfl (by decide) rfl rfl rfl (Nat.le_of_ble_eq_true rfl) ⟨Nat.zero_le _, Nat.zero_le _⟩ dX10_readTwo_28 rfl rfl ?_
  refine V_aload_n X dX10_readTwo_31 0 rfl ?_
  refine V_dup X dX10_readTwo_32 rfl ?_
  refine getX10 X (o := 0) (j := 7) rfl (by decide) q1555 (fv_0 rfl) dX10_readTwo_33 ?_
  refine V_iconst X dX10_readTwo_36 ?_
  refine V_isub X dX10_readTwo_37 ?_
  refine putX10 X (o := 0) (j := 7) (a := ((gI c28 907 0) - 1)) rfl (by decide) rfl rfl rfl q1555 dX10_readTwo_38 ?_
  refine V_aload_n X dX10_readTwo_41 0 rfl ?_
  refine V_iload_n X dX10_readTwo_42 2 rfl ?_
  refine V_iconst X dX10_readTwo_43 ?_
  obtain ⟨c44, hc44, h⟩ := bind_some_eq h
  refine V_callV (As := [vI l2, vI 0]) (rest := []) (s1 := []) (o := 0) X (con_m_emit (sI c28 907 0 ((gI c28 907 0) - 1)) l2 0 c44 hc44) gwX10_emit hdX10_emit ⟨by dsimp only; omega, by dsimp only; omega⟩ rfl (by decide) rfl rfl rfl (Nat.le_of_ble_eq_true rfl) ⟨Nat.zero_le _, Nat.zero_le _⟩ dX10_readTwo_44 rfl rfl ?_
  have hr := Option.some.inj h
  subst hr
  exact V_end_v hX rfl dX10_readTwo_47
set_option maxHeartbeats 4000000 in
theorem con_m_standsHere (N : Nat) (sa1 : Nat) (t1 : List Int) (ht1 : asc t1 ∧ t1.length < 1000) (g : GS) (r : (Int × GS)) (h : m_standsHere N t1 g = some r) : ConE yX10_standsHere cX10_standsHere 3 (some .boolean) 6 200 Km (fun b => [.ref (b + 0), .ref sa1]) (fun b => STR b sa1 t1) g (fun _ => some (vI r.1)) r.2 := by
  refine ConE.of RX10 (by decide) rfl (fun b => Nat.le_of_ble_eq_true rfl) (fun x sz hX hE => ?_)
  have X := hX.1
  have LL7 : ∀ (g : GS) (n : Nat) (s : (Int)) (e : (Int × GS)), loopN (fun s => m_standsHere_b7 N t1 g s) n s = some e → (e = r) → V x 3 Km 0 0 sz g 7 [(0, .ref (xb x + 0)), (1, .ref sa1), (2, vI s)] [] := by
    intro g n s e
    refine loop_walk (P := fun s => V x 3 Km 0 0 sz g 7 [(0, .ref (xb x + 0)), (1, .ref sa1), (2, vI s)] []) (E := fun e => e = r) ?_ n s e
    clear e s n
    rintro l2 q7 h hc7 he7
    replace h : m_standsHere_b7 N t1 g l2 = some q7 := h
    unfold m_standsHere_b7 at h
    show V x 3 Km 0 0 sz g 7 [(0, .ref (xb x + 0)), (1, .ref sa1), (2, vI l2)] []
    refine V_iload_n X dX10_standsHere_7 2 rfl ?_
    refine V_aload_n X dX10_standsHere_8 1 rfl ?_
    refine V_strlen X hE q1815 (by decide) (Nat.le_of_ble_eq_true rfl) ⟨Nat.zero_le _, Nat.zero_le _⟩ dX10_standsHere_9 ?_
    refine V_icmp_ge (tgt := 55) X dX10_standsHere_12 (by decide) h (fun h => ?_) (fun h => ?_)
    · obtain ⟨e1, h, e1q⟩ := outR_some h
      replace h := h.trans (congrArg some (he7 _ e1q))
      refine V_aload_n X dX10_standsHere_55 0 rfl ?_
      refine getX10 X (o := 0) (j := 4) rfl (by decide) q1552 (fv_0 rfl) dX10_standsHere_56 ?_
      refine V_aload_n X dX10_standsHere_59 1 rfl ?_
      refine V_strlen X hE q1815 (by decide) (Nat.le_of_ble_eq_true rfl) ⟨Nat.zero_le _, Nat.zero_le _⟩ dX10_standsHere_60 ?_
      refine V_iadd X dX10_standsHere_63 ?_
      refine V_aload_n X dX10_standsHere_64 0 rfl ?_
      refine getX10 X (o := 0) (j := 3) rfl (by decide) q1551 (fv_0 rfl) dX10_standsHere_65 ?_
      refine V_icmp_ge (tgt := 91) X dX10_standsHere_68 (by decide) h (fun h => ?_) (fun h => ?_)
      · refine V_iconst X dX10_standsHere_91 ?_
        refine V_goto (tgt := 96) X dX10_standsHere_92 (by decide) ?_
        have hr := Option.some.inj h
        subst hr
        exact V_end_z hX (Or.inr rfl) rfl dX10_standsHere_96
      · refine V_aload_n X dX10_standsHere_71 0 rfl ?_
        refine getX10 X (o := 0) (j := 9) rfl (by decide) q1557 (fv_1 (i := 2) rfl rfl) dX10_standsHere_72 ?_
        refine V_aload_n X dX10_standsHere_75 0 rfl ?_
        refine getX10 X (o := 0) (j := 4) rfl (by decide) q1552 (fv_0 rfl) dX10_standsHere_76 ?_
        refine V_aload_n X dX10_standsHere_79 1 rfl ?_
        refine V_strlen X hE q1815 (by decide) (Nat.le_of_ble_eq_true rfl) ⟨Nat.zero_le _, Nat.zero_le _⟩ dX10_standsHere_80 ?_
        refine V_iadd X dX10_standsHere_83 ?_
        refine V_iald X (o := 2) (n := 600) rfl (by decide) dX10_standsHere_84 h (fun v84 h => ?_)
        obtain ⟨c85, hc85, h⟩ := bind_some_eq h
        refine V_callS (As := [vI v84]) (rest := []) (s1 := [vI c85]) X (con_m_isSmall g v84 c85 hc85) gwX10_isSmall hdX10_isSmall (by decide) rfl rfl (Nat.le_of_ble_eq_true rfl) ⟨Nat.zero_le _, Nat.zero_le _⟩ dX10_standsHere_85 rfl rfl ?_
        refine V_if_ne (tgt := 95) X dX10_standsHere_88 (by decide) h (fun h => ?_) (fun h => ?_)
        · refine V_iconst X dX10_standsHere_95 ?_
          have hr := Option.some.inj h
          subst hr
          exact V_end_z hX (Or.inl rfl) rfl dX10_standsHere_96
        · refine V_iconst X dX10_standsHere_91 ?_
          refine V_goto (tgt := 96) X dX10_standsHere_92 (by decide) ?_
          have hr := Option.some.inj h
          subst hr
          exact V_end_z hX (Or.inr rfl) rfl dX10_standsHere_96
    · refine V_aload_n X dX10_standsHere_15 0 rfl ?_
      refine getX10 X (o := 0) (j := 4) rfl (by decide) q1552 (fv_0 rfl) dX10_standsHere_16 ?_
      refine V_iload_n X dX10_standsHere_19 2 rfl ?_
      refine V_iadd X dX10_standsHere_20 ?_
      refine V_aload_n X dX10_standsHere_21 0 rfl ?_
      refine getX10 X (o := 0) (j := 3) rfl (by decide) q1551 (fv_0 rfl) dX10_standsHere_22 ?_
      refine V_icmp_ge (tgt := 47) X dX10_standsHere_25 (by decide) h (fun h => ?_) (fun h => ?_)
      · obtain ⟨e2, h, e2q⟩ := outR_some h
        replace h := h.trans (congrArg some (he7 _ e2q))
        refine V_iconst X dX10_standsHere_47 ?_
        have hr := Option.some.inj h
        subst hr
        exact V_end_z hX (Or.inl rfl) rfl dX10_standsHere_48
      · refine V_aload_n X dX10_standsHere_28 0 rfl ?_
        refine getX10 X (o := 0) (j := 9) rfl (by decide) q1557 (fv_1 (i := 2) rfl rfl) dX10_standsHere_29 ?_
        refine V_aload_n X dX10_standsHere_32 0 rfl ?_
        refine getX10 X (o := 0) (j := 4) rfl (by decide) q1552 (fv_0 rfl) dX10_standsHere_33 ?_
        refine V_iload_n X dX10_standsHere_36 2 rfl ?_
        refine V_iadd X dX10_standsHere_37 ?_
        refine V_iald X (o := 2) (n := 600) rfl (by decide) dX10_standsHere_38 h (fun v38 h => ?_)
        refine V_aload_n X dX10_standsHere_39 1 rfl ?_
        refine V_iload_n X dX10_standsHere_40 2 rfl ?_
        refine V_charAt X hE ht1 q1816 (by decide) (Nat.le_of_ble_eq_true rfl) ⟨Nat.zero_le _, Nat.zero_le _⟩ dX10_standsHere_41 h (fun v41 h => ?_)
        refine V_icmp_eq (tgt := 49) X dX10_standsHere_44 (by decide) h (fun h => ?_) (fun h => ?_)
        · refine V_iinc X dX10_standsHere_49 2 rfl (by decide) (L' := [(2, vI (l2 + 1)), (0, .ref (xb x + 0)), (1, .ref sa1)]) rfl ?_
          refine V_goto (tgt := 7) X dX10_standsHere_52 (by decide) ?_
          exact V_sub [1, 2, 0] rfl (hc7 _ (Option.some.inj h).symm)
        · obtain ⟨e3, h, e3q⟩ := outR_some h
          replace h := h.trans (congrArg some (he7 _ e3q))
          refine V_iconst X dX10_standsHere_47 ?_
          have hr := Option.some.inj h
          subst hr
          exact V_end_z hX (Or.inl rfl) rfl dX10_standsHere_48
  unfold m_standsHere at h
  show V x 3 Km 0 0 sz g 0 [(0, .ref (xb x + 0)), (1, .ref sa1)] []
  refine V_aload_n X dX10_standsHere_0 0 rfl ?_
  obtain ⟨c1, hc1, h⟩ := bind_some_eq h
  refine V_callV (As := []) (rest := []) (s1 := [vI c1.1]) (o := 0) X (con_m_here N g c1 hc1) gwX10_here hdX10_here (by decide) rfl (by decide) rfl rfl rfl (Nat.le_of_ble_eq_true rfl) ⟨Nat.zero_le _, Nat.zero_le _⟩ dX10_standsHere_1 rfl rfl ?_
  refine V_pop X dX10_standsHere_4 rfl ?_
  refine V_iconst X dX10_standsHere_5 ?_
  refine V_istore_n X dX10_standsHere_6 (by decide) (L' := [(2, vI 0), (0, .ref (xb x + 0)), (1, .ref sa1)]) rfl ?_
  exact V_sub [1, 2, 0] rfl (LL7 c1.2 N 0 _ h rfl)
set_option maxHeartbeats 4000000 in
theorem con_m_factHere (N : Nat) (g : GS) (r : (Int × GS)) (h : m_factHere N g = some r) : Con yX10_factHere cX10_factHere 2 (some .int) 7 222 Km (fun b => [.ref (b + 0)]) g (fun _ => some (vI r.1)) r.2 := by
  refine Con.of RX10 (by decide) rfl (fun b => Nat.le_of_ble_eq_true rfl) (fun x sz hX => ?_)
  have X := hX.1
  unfold m_factHere at h
  show V x 2 Km 0 0 sz g 0 [(0, .ref (xb x + 0))] []
  refine V_aload_n X dX10_factHere_0 0 rfl ?_
  obtain ⟨sa1_, hksa1_, hssa1_⟩ := (xok_sf X).str 32 (by decide) q1900
  replace hssa1_ : STR (xb x) sa1_ tx_minutes x.1.2.2.2.2.1 x.1.2.2.2.2.1.heap := hssa1_
  refine V_ldcSw X hksa1_ dX10_factHere_1 ?_
  obtain ⟨c4, hc4, h⟩ := bind_some_eq h
  refine V_callVE (a := xb x + 0) (As := [.ref sa1_]) (rest := []) (s1 := [vI c4.1]) X (con_m_standsHere N sa1_ tx_minutes as_minutes g c4 hc4) STR.blind (str_on X hssa1_) gwX10_standsHere hdX10_standsHere (by decide) (fun H locs hS => recv_w (o := 0) (ci := 9) (N := 73) (T := TX10) X rfl (by decide) rfl hS) rfl rfl (Nat.le_of_ble_eq_true rfl) ⟨Nat.zero_le _, Nat.zero_le _⟩ dX10_factHere_4 rfl rfl ?_
  refine V_if_eq (tgt := 12) X dX10_factHere_7 (by decide) h (fun h => ?_) (fun h => ?_)
  · refine V_aload_n X dX10_factHere_12 0 rfl ?_
    obtain ⟨c13, hc13, h⟩ := bind_some_eq h
    refine V_callV (As := []) (rest := []) (s1 := [vI c13.1]) (o := 0) X (con_m_word N c4.2 c13 hc13) gwX10_word hdX10_word (by decide) rfl (by decide) rfl rfl rfl (Nat.le_of_ble_eq_true rfl) ⟨Nat.zero_le _, Nat.zero_le _⟩ dX10_factHere_13 rfl rfl ?_
    refine V_istore_n X dX10_factHere_16 (by decide) (L' := [(1, vI c13.1), (0, .ref (xb x + 0))]) rfl ?_
    refine V_iload_n X dX10_factHere_17 0 rfl ?_
    obtain ⟨sa18_, hksa18_, hssa18_⟩ := (xok_sf X).str 33 (by decide) q1905
    replace hssa18_ : STR (xb x) sa18_ tx_hands x.1.2.2.2.2.1 x.1.2.2.2.2.1.heap := hssa18_
    refine V_ldcSw X hksa18_ dX10_factHere_18 ?_
    obtain ⟨c21, hc21, h⟩ := bind_some_eq h
    refine V_callSE (As := [.ref sa18_]) (rest := [vI c13.1]) (s1 := [vI c21, vI c13.1]) X (con_m_of N sa18_ tx_hands as_hands c13.2 c21 hc21) STR.blind (str_on X hssa18_) gwX10_of hdX10_of (by decide) rfl rfl (Nat.le_of_ble_eq_true rfl) ⟨Nat.zero_le _, Nat.zero_le _⟩ dX10_factHere_21 rfl rfl ?_
    refine V_icmp_ne (tgt := 31) X dX10_factHere_24 (by decide) h (fun h => ?_) (fun h => ?_)
    · refine V_iload_n X dX10_factHere_31 0 rfl ?_
      obtain ⟨sa32_, hksa32_, hssa32_⟩ := (xok_sf X).str 34 (by decide) q1906
      replace hssa32_ : STR (xb x) sa32_ tx_strong x.1.2.2.2.2.1 x.1.2.2.2.2.1.heap := hssa32_
      refine V_ldcSw X hksa32_ dX10_factHere_32 ?_
      obtain ⟨c35, hc35, h⟩ := bind_some_eq h
      refine V_callSE (As := [.ref sa32_]) (rest := [vI c13.1]) (s1 := [vI c35, vI c13.1]) X (con_m_of N sa32_ tx_strong as_strong c13.2 c35 hc35) STR.blind (str_on X hssa32_) gwX10_of hdX10_of (by decide) rfl rfl (Nat.le_of_ble_eq_true rfl) ⟨Nat.zero_le _, Nat.zero_le _⟩ dX10_factHere_35 rfl rfl ?_
      refine V_icmp_ne (tgt := 45) X dX10_factHere_38 (by decide) h (fun h => ?_) (fun h => ?_)
      · refine V_iload_n X dX10_factHere_45 0 rfl ?_
        obtain ⟨sa46_, hksa46_, hssa46_⟩ := (xok_sf X).str 25 (by decide) q1825
        replace hssa46_ : STR (xb x) sa46_ tx_rain x.1.2.2.2.2.1 x.1.2.2.2.2.1.heap := hssa46_
        refine V_ldcSw X hksa46_ dX10_factHere_46 ?_
        obtain ⟨c49, hc49, h⟩ := bind_some_eq h
        refine V_callSE (As := [.ref sa46_]) (rest := [vI c13.1]) (s1 := [vI c49, vI c13.1]) X (con_m_of N sa46_ tx_rain as_rain c13.2 c49 hc49) STR.blind (str_on X hssa46_) gwX10_of hdX10_of (by decide) rfl rfl (Nat.le_of_ble_eq_true rfl) ⟨Nat.zero_le _, Nat.zero_le _⟩ dX10_factHere_49 rfl rfl ?_
        refine V_icmp_ne (tgt := 59) X dX10_factHere_52 (by decide) h (fun h => ?_) (fun h => ?_)
        · refine V_iload_n X dX10_factHere_59 0 rfl ?_
          obtain ⟨sa60_, hksa60_, hssa60_⟩ := (xok_sf X).str 35 (by decide) q1907
          replace hssa60_ : STR (xb x) sa60_ tx_minute x.1.2.2.2.2.1 x.1.2.2.2.2.1.heap := hssa60_
          refine V_ldcSw X hksa60_ dX10_factHere_60 ?_
          obtain ⟨c63, hc63, h⟩ := bind_some_eq h
          refine V_callSE (As := [.ref sa60_]) (rest := [vI c13.1]) (s1 := [vI c63, vI c13.1]) X (con_m_of N sa60_ tx_minute as_minute c13.2 c63 hc63) STR.blind (str_on X hssa60_) gwX10_of hdX10_of (by decide) rfl rfl (Nat.le_of_ble_eq_true rfl) ⟨Nat.zero_le _, Nat.zero_le _⟩ dX10_factHere_63 rfl rfl ?_
          refine V_icmp_ne (tgt := 73) X dX10_factHere_66 (by decide) h (fun h => ?_) (fun h => ?_)
          · refine V_iload_n X dX10_factHere_73 0 rfl ?_
            obtain ⟨sa74_, hksa74_, hssa74_⟩ := (xok_sf X).str 36 (by decide) q1908
            replace hssa74_ : STR (xb x) sa74_ tx_out x.1.2.2.2.2.1 x.1.2.2.2.2.1.heap := hssa74_
            refine V_ldcSw X hksa74_ dX10_factHere_74 ?_
            obtain ⟨c77, hc77, h⟩ := bind_some_eq h
            refine V_callSE (As := [.ref sa74_]) (rest := [vI c13.1]) (s1 := [vI c77, vI c13.1]) X (con_m_of N sa74_ tx_out as_out c13.2 c77 hc77) STR.blind (str_on X hssa74_) gwX10_of hdX10_of (by decide) rfl rfl (Nat.le_of_ble_eq_true rfl) ⟨Nat.zero_le _, Nat.zero_le _⟩ dX10_factHere_77 rfl rfl ?_
            refine V_icmp_ne (tgt := 87) X dX10_factHere_80 (by decide) h (fun h => ?_) (fun h => ?_)
            · refine V_iconst X dX10_factHere_87 ?_
              have hr := Option.some.inj h
              subst hr
              exact V_end_i hX rfl dX10_factHere_88
            · refine V_iconst X dX10_factHere_83 ?_
              refine V_goto (tgt := 88) X dX10_factHere_84 (by decide) ?_
              have hr := Option.some.inj h
              subst hr
              exact V_end_i hX rfl dX10_factHere_88
          · refine V_iconst X dX10_factHere_69 ?_
            refine V_goto (tgt := 88) X dX10_factHere_70 (by decide) ?_
            have hr := Option.some.inj h
            subst hr
            exact V_end_i hX rfl dX10_factHere_88
        · refine V_iconst X dX10_factHere_55 ?_
          refine V_goto (tgt := 88) X dX10_factHere_56 (by decide) ?_
          have hr := Option.some.inj h
          subst hr
          exact V_end_i hX rfl dX10_factHere_88
      · refine V_iconst X dX10_factHere_41 ?_
        refine V_goto (tgt := 88) X dX10_factHere_42 (by decide) ?_
        have hr := Option.some.inj h
        subst hr
        exact V_end_i hX rfl dX10_factHere_88
    · refine V_iconst X dX10_factHere_27 ?_
      refine V_goto (tgt := 88) X dX10_factHere_28 (by decide) ?_
      have hr := Option.some.inj h
      subst hr
      exact V_end_i hX rfl dX10_factHere_88
  · refine V_iconst X dX10_factHere_10 ?_
    have hr := Option.some.inj h
    subst hr
    exact V_end_i hX rfl dX10_factHere_11
set_option maxHeartbeats 4000000 in
theorem con_m_readUnit_F (N : Nat) (fr lo : Nat) (R_readSum : GS → Option GS) (H_readSum : ∀ (g : GS) (r : GS), R_readSum g = some r → Con yX10_readSum cX10_readSum 2 none fr lo Km (fun b => [.ref (b + 0)]) g (fun _ => none) r) (R_readTwo : GS → Int → Int → Option GS) (H_readTwo : ∀ (g : GS) (a0 a1 : Int) (r : GS), R_readTwo g a0 a1 = some r → Con yX10_readTwo cX10_readTwo 3 none fr lo Km (fun b => [.ref (b + 0), vI a0, vI a1]) g (fun _ => none) r) (g : GS) (r : GS) (h : m_readUnit_F N R_readSum R_readTwo g = some r) : Con yX10_readUnit cX10_readUnit 2 none (fr + 9) (lo + 283) Km (fun b => [.ref (b + 0)]) g (fun _ => none) r := by
  refine Con.of RX10 (by decide) rfl (fun b => Nat.le_of_ble_eq_true rfl) (fun x sz hX => ?_)
  have X := hX.1
  have J136 : ∀ (g : GS) (l1 : Int), m_readUnit_F_j136 N R_readSum R_readTwo g l1 = some r → V x 2 Km 0 0 sz g 136 [(0, .ref (xb x + 0)), (1, vI l1)] [] := by
    intro g l1 h
    unfold m_readUnit_F_j136 at h
    refine V_aload_n X dX10_readUnit_136 0 rfl ?_
    obtain ⟨c137, hc137, h⟩ := bind_some_eq h
    refine V_callV (As := []) (rest := []) (s1 := [vI c137]) (o := 0) X (con_m_fine g c137 hc137) gwX10_fine hdX10_fine ⟨by dsimp only; omega, by dsimp only; omega⟩ rfl (by decide) rfl rfl rfl (Nat.le_of_ble_eq_true rfl) ⟨Nat.zero_le _, Nat.zero_le _⟩ dX10_readUnit_137 rfl rfl ?_
    refine V_if_ne (tgt := 144) X dX10_readUnit_140 (by decide) h (fun h => ?_) (fun h => ?_)
    · refine V_aload_n X dX10_readUnit_144 0 rfl ?_
      obtain ⟨c145, hc145, h⟩ := bind_some_eq h
      refine V_callV (As := []) (rest := []) (s1 := []) (o := 0) X (con_m_pass N g c145 hc145) gwX10_pass hdX10_pass ⟨by dsimp only; omega, by dsimp only; omega⟩ rfl (by decide) rfl rfl rfl (Nat.le_of_ble_eq_true rfl) ⟨Nat.zero_le _, Nat.zero_le _⟩ dX10_readUnit_145 rfl rfl ?_
      refine V_aload_n X dX10_readUnit_148 0 rfl ?_
      refine V_iconst X dX10_readUnit_149 ?_
      refine V_iload_n X dX10_readUnit_150 1 rfl ?_
      obtain ⟨c151, hc151, h⟩ := bind_some_eq h
      refine V_callV (As := [vI 1, vI l1]) (rest := []) (s1 := []) (o := 0) X (con_m_emit c145 1 l1 c151 hc151) gwX10_emit hdX10_emit ⟨by dsimp only; omega, by dsimp only; omega⟩ rfl (by decide) rfl rfl rfl (Nat.le_of_ble_eq_true rfl) ⟨Nat.zero_le _, Nat.zero_le _⟩ dX10_readUnit_151 rfl rfl ?_
      have hr := Option.some.inj h
      subst hr
      exact V_end_v hX rfl dX10_readUnit_154
    · have hr := Option.some.inj h
      subst hr
      exact V_end_v hX rfl dX10_readUnit_143
  unfold m_readUnit_F at h
  show V x 2 Km 0 0 sz g 0 [(0, .ref (xb x + 0))] []
  refine V_aload_n X dX10_readUnit_0 0 rfl ?_
  obtain ⟨c1, hc1, h⟩ := bind_some_eq h
  refine V_callV (As := []) (rest := []) (s1 := [vI c1]) (o := 0) X (con_m_fine g c1 hc1) gwX10_fine hdX10_fine ⟨by dsimp only; omega, by dsimp only; omega⟩ rfl (by decide) rfl rfl rfl (Nat.le_of_ble_eq_true rfl) ⟨Nat.zero_le _, Nat.zero_le _⟩ dX10_readUnit_1 rfl rfl ?_
  refine V_if_ne (tgt := 8) X dX10_readUnit_4 (by decide) h (fun h => ?_) (fun h => ?_)
  · refine V_aload_n X dX10_readUnit_8 0 rfl ?_
    obtain ⟨c9, hc9, h⟩ := bind_some_eq h
    refine V_callV (As := []) (rest := []) (s1 := [vI c9.1]) (o := 0) X (con_m_here N g c9 hc9) gwX10_here hdX10_here ⟨by dsimp only; omega, by dsimp only; omega⟩ rfl (by decide) rfl rfl rfl (Nat.le_of_ble_eq_true rfl) ⟨Nat.zero_le _, Nat.zero_le _⟩ dX10_readUnit_9 rfl rfl ?_
    refine V_bipush X dX10_readUnit_12 (by decide) ?_
    refine V_icmp_ne (tgt := 45) X dX10_readUnit_14 (by decide) h (fun h => ?_) (fun h => ?_)
    · refine V_aload_n X dX10_readUnit_45 0 rfl ?_
      obtain ⟨c46, hc46, h⟩ := bind_some_eq h
      refine V_callV (As := []) (rest := []) (s1 := [vI c46.1]) (o := 0) X (con_m_here N c9.2 c46 hc46) gwX10_here hdX10_here ⟨by dsimp only; omega, by dsimp only; omega⟩ rfl (by decide) rfl rfl rfl (Nat.le_of_ble_eq_true rfl) ⟨Nat.zero_le _, Nat.zero_le _⟩ dX10_readUnit_46 rfl rfl ?_
      obtain ⟨c49, hc49, h⟩ := bind_some_eq h
      refine V_callS (As := [vI c46.1]) (rest := []) (s1 := [vI c49]) X (con_m_isDigit c46.2 c46.1 c49 hc49) gwX10_isDigit hdX10_isDigit ⟨by dsimp only; omega, by dsimp only; omega⟩ rfl rfl (Nat.le_of_ble_eq_true rfl) ⟨Nat.zero_le _, Nat.zero_le _⟩ dX10_readUnit_49 rfl rfl ?_
      refine V_if_eq (tgt := 71) X dX10_readUnit_52 (by decide) h (fun h => ?_) (fun h => ?_)
      · refine V_aload_n X dX10_readUnit_71 0 rfl ?_
        obtain ⟨c72, hc72, h⟩ := bind_some_eq h
        refine V_callV (As := []) (rest := []) (s1 := [vI c72.1]) (o := 0) X (con_m_word N c46.2 c72 hc72) gwX10_word hdX10_word ⟨by dsimp only; omega, by dsimp only; omega⟩ rfl (by decide) rfl rfl rfl (Nat.le_of_ble_eq_true rfl) ⟨Nat.zero_le _, Nat.zero_le _⟩ dX10_readUnit_72 rfl rfl ?_
        obtain ⟨sa75_, hksa75_, hssa75_⟩ := (xok_sf X).str 37 (by decide) q1890
        replace hssa75_ : STR (xb x) sa75_ tx_least x.1.2.2.2.2.1 x.1.2.2.2.2.1.heap := hssa75_
        refine V_ldcSw X hksa75_ dX10_readUnit_75 ?_
        obtain ⟨c78, hc78, h⟩ := bind_some_eq h
        refine V_callSE (As := [.ref sa75_]) (rest := [vI c72.1]) (s1 := [vI c78, vI c72.1]) X (con_m_of N sa75_ tx_least as_least c72.2 c78 hc78) STR.blind (str_on X hssa75_) gwX10_of hdX10_of ⟨by dsimp only; omega, by dsimp only; omega⟩ rfl rfl (Nat.le_of_ble_eq_true rfl) ⟨Nat.zero_le _, Nat.zero_le _⟩ dX10_readUnit_78 rfl rfl ?_
        refine V_icmp_ne (tgt := 94) X dX10_readUnit_81 (by decide) h (fun h => ?_) (fun h => ?_)
        · refine V_aload_n X dX10_readUnit_94 0 rfl ?_
          obtain ⟨c95, hc95, h⟩ := bind_some_eq h
          refine V_callV (As := []) (rest := []) (s1 := [vI c95.1]) (o := 0) X (con_m_word N c72.2 c95 hc95) gwX10_word hdX10_word ⟨by dsimp only; omega, by dsimp only; omega⟩ rfl (by decide) rfl rfl rfl (Nat.le_of_ble_eq_true rfl) ⟨Nat.zero_le _, Nat.zero_le _⟩ dX10_readUnit_95 rfl rfl ?_
          obtain ⟨sa98_, hksa98_, hssa98_⟩ := (xok_sf X).str 38 (by decide) q1895
          replace hssa98_ : STR (xb x) sa98_ tx_most x.1.2.2.2.2.1 x.1.2.2.2.2.1.heap := hssa98_
          refine V_ldcSw X hksa98_ dX10_readUnit_98 ?_
          obtain ⟨c101, hc101, h⟩ := bind_some_eq h
          refine V_callSE (As := [.ref sa98_]) (rest := [vI c95.1]) (s1 := [vI c101, vI c95.1]) X (con_m_of N sa98_ tx_most as_most c95.2 c101 hc101) STR.blind (str_on X hssa98_) gwX10_of hdX10_of ⟨by dsimp only; omega, by dsimp only; omega⟩ rfl rfl (Nat.le_of_ble_eq_true rfl) ⟨Nat.zero_le _, Nat.zero_le _⟩ dX10_readUnit_101 rfl rfl ?_
          refine V_icmp_ne (tgt := 117) X dX10_readUnit_104 (by decide) h (fun h => ?_) (fun h => ?_)
          · refine V_aload_n X dX10_readUnit_117 0 rfl ?_
            obtain ⟨c118, hc118, h⟩ := bind_some_eq h
            refine V_callV (As := []) (rest := []) (s1 := [vI c118.1]) (o := 0) X (con_m_factHere N c95.2 c118 hc118) gwX10_factHere hdX10_factHere ⟨by dsimp only; omega, by dsimp only; omega⟩ rfl (by decide) rfl rfl rfl (Nat.le_of_ble_eq_true rfl) ⟨Nat.zero_le _, Nat.zero_le _⟩ dX10_readUnit_118 rfl rfl ?_
            refine V_istore_n X dX10_readUnit_121 (by decide) (L' := [(1, vI c118.1), (0, .ref (xb x + 0))]) rfl ?_
            refine V_iload_n X dX10_readUnit_122 0 rfl ?_
            refine V_iconst X dX10_readUnit_123 ?_
            refine V_icmp_ne (tgt := 136) X dX10_readUnit_124 (by decide) h (fun h => ?_) (fun h => ?_)
            · exact V_sub [1, 0] rfl (J136 _ _ h)
            · refine V_aload_n X dX10_readUnit_127 1 rfl ?_
              refine V_iconst X dX10_readUnit_128 ?_
              refine V_aload_n X dX10_readUnit_129 1 rfl ?_
              refine getX10 X (o := 0) (j := 4) rfl (by decide) q1552 (fv_0 rfl) dX10_readUnit_130 ?_
              obtain ⟨c133, hc133, h⟩ := bind_some_eq h
              refine V_callV (As := [vI 1, vI (gI c118.2 904 0)]) (rest := []) (s1 := []) (o := 0) X (con_m_wrong c118.2 1 (gI c118.2 904 0) c133 hc133) gwX10_wrong hdX10_wrong ⟨by dsimp only; omega, by dsimp only; omega⟩ rfl (by decide) rfl rfl rfl (Nat.le_of_ble_eq_true rfl) ⟨Nat.zero_le _, Nat.zero_le _⟩ dX10_readUnit_133 rfl rfl ?_
              exact V_sub [1, 0] rfl (J136 _ _ h)
          · refine V_aload_n X dX10_readUnit_107 0 rfl ?_
            refine V_iconst X dX10_readUnit_108 ?_
            refine V_bipush X dX10_readUnit_109 (by decide) ?_
            obtain ⟨c111, hc111, h⟩ := bind_some_eq h
            refine V_callV (As := [vI 4, vI 7]) (rest := []) (s1 := []) (o := 0) X (H_readTwo c95.2 4 7 c111 hc111) gwX10_readTwo hdX10_readTwo ⟨by dsimp only; omega, by dsimp only; omega⟩ rfl (by decide) rfl rfl rfl (Nat.le_of_ble_eq_true rfl) ⟨Nat.zero_le _, Nat.zero_le _⟩ dX10_readUnit_111 rfl rfl ?_
            refine V_goto (tgt := 154) X dX10_readUnit_114 (by decide) ?_
            have hr := Option.some.inj h
            subst hr
            exact V_end_v hX rfl dX10_readUnit_154
        · refine V_aload_n X dX10_readUnit_84 0 rfl ?_
          refine V_iconst X dX10_readUnit_85 ?_
          refine V_bipush X dX10_readUnit_86 (by decide) ?_
          obtain ⟨c88, hc88, h⟩ := bind_some_eq h
          refine V_callV (As := [vI 5, vI 6]) (rest := []) (s1 := []) (o := 0) X (H_readTwo c72.2 5 6 c88 hc88) gwX10_readTwo hdX10_readTwo ⟨by dsimp only; omega, by dsimp only; omega⟩ rfl (by decide) rfl rfl rfl (Nat.le_of_ble_eq_true rfl) ⟨Nat.zero_le _, Nat.zero_le _⟩ dX10_readUnit_88 rfl rfl ?_
          refine V_goto (tgt := 154) X dX10_readUnit_91 (by decide) ?_
          have hr := Option.some.inj h
          subst hr
          exact V_end_v hX rfl dX10_readUnit_154
      · refine V_aload_n X dX10_readUnit_55 0 rfl ?_
        refine V_iconst X dX10_readUnit_56 ?_
        refine V_aload_n X dX10_readUnit_57 0 rfl ?_
        refine V_iconst X dX10_readUnit_58 ?_
        refine V_sipush X dX10_readUnit_59 (by decide) ?_
        obtain ⟨c62, hc62, h⟩ := bind_some_eq h
        refine V_callV (As := [vI 0, vI 999]) (rest := [vI 0, .ref (xb x + 0)]) (s1 := [vI c62.1, vI 0, .ref (xb x + 0)]) (o := 0) X (con_m_readNumber N c46.2 0 999 c62 hc62) gwX10_readNumber hdX10_readNumber ⟨by dsimp only; omega, by dsimp only; omega⟩ rfl (by decide) rfl rfl rfl (Nat.le_of_ble_eq_true rfl) ⟨Nat.zero_le _, Nat.zero_le _⟩ dX10_readUnit_62 rfl rfl ?_
        obtain ⟨c65, hc65, h⟩ := bind_some_eq h
        refine V_callV (As := [vI 0, vI c62.1]) (rest := []) (s1 := []) (o := 0) X (con_m_emit c62.2 0 c62.1 c65 hc65) gwX10_emit hdX10_emit ⟨by dsimp only; omega, by dsimp only; omega⟩ rfl (by decide) rfl rfl rfl (Nat.le_of_ble_eq_true rfl) ⟨Nat.zero_le _, Nat.zero_le _⟩ dX10_readUnit_65 rfl rfl ?_
        refine V_goto (tgt := 154) X dX10_readUnit_68 (by decide) ?_
        have hr := Option.some.inj h
        subst hr
        exact V_end_v hX rfl dX10_readUnit_154
    · refine V_aload_n X dX10_readUnit_17 0 rfl ?_
      refine V_iconst X dX10_readUnit_18 ?_
      obtain ⟨c19, hc19, h⟩ := bind_some_eq h
      refine V_callV (As := [vI 1]) (rest := []) (s1 := []) (o := 0) X (con_m_opensOne c9.2 1 c19 hc19) gwX10_opensOne hdX10_opensOne ⟨by dsimp only; omega, by dsimp only; omega⟩ rfl (by decide) rfl rfl rfl (Nat.le_of_ble_eq_true rfl) ⟨Nat.zero_le _, Nat.zero_le _⟩ dX10_readUnit_19 rfl rfl ?_
      refine V_aload_n X dX10_readUnit_22 0 rfl ?_
      obtain ⟨c23, hc23, h⟩ := bind_some_eq h
      refine V_callV (As := []) (rest := []) (s1 := []) (o := 0) X (H_readSum c19 c23 hc23) gwX10_readSum hdX10_readSum ⟨by dsimp only; omega, by dsimp only; omega⟩ rfl (by decide) rfl rfl rfl (Nat.le_of_ble_eq_true rfl) ⟨Nat.zero_le _, Nat.zero_le _⟩ dX10_readUnit_23 rfl rfl ?_
      refine V_aload_n X dX10_readUnit_26 0 rfl ?_
      refine V_bipush X dX10_readUnit_27 (by decide) ?_
      obtain ⟨c29, hc29, h⟩ := bind_some_eq h
      refine V_callV (As := [vI 41]) (rest := []) (s1 := []) (o := 0) X (con_m_sign N c23 41 c29 hc29) gwX10_sign hdX10_sign ⟨by dsimp only; omega, by dsimp only; omega⟩ rfl (by decide) rfl rfl rfl (Nat.le_of_ble_eq_true rfl) ⟨Nat.zero_le _, Nat.zero_le _⟩ dX10_readUnit_29 rfl rfl ?_
      refine V_aload_n X dX10_readUnit_32 0 rfl ?_
      refine V_dup X dX10_readUnit_33 rfl ?_
      refine getX10 X (o := 0) (j := 7) rfl (by decide) q1555 (fv_0 rfl) dX10_readUnit_34 ?_
      refine V_iconst X dX10_readUnit_37 ?_
      refine V_isub X dX10_readUnit_38 ?_
      refine putX10 X (o := 0) (j := 7) (a := ((gI c29 907 0) - 1)) rfl (by decide) rfl rfl rfl q1555 dX10_readUnit_39 ?_
      refine V_goto (tgt := 154) X dX10_readUnit_42 (by decide) ?_
      have hr := Option.some.inj h
      subst hr
      exact V_end_v hX rfl dX10_readUnit_154
  · have hr := Option.some.inj h
    subst hr
    exact V_end_v hX rfl dX10_readUnit_7
set_option maxHeartbeats 4000000 in
theorem con_m_readProduct_F (N : Nat) (fr lo : Nat) (R_readUnit : GS → Option GS) (H_readUnit : ∀ (g : GS) (r : GS), R_readUnit g = some r → Con yX10_readUnit cX10_readUnit 2 none fr lo Km (fun b => [.ref (b + 0)]) g (fun _ => none) r) (g : GS) (r : GS) (h : m_readProduct_F N R_readUnit g = some r) : Con yX10_readProduct cX10_readProduct 2 none (fr + 4) (lo + 94) Km (fun b => [.ref (b + 0)]) g (fun _ => none) r := by
  refine Con.of RX10 (by decide) rfl (fun b => Nat.le_of_ble_eq_true rfl) (fun x sz hX => ?_)
  have X := hX.1
  have LL4 : ∀  (n : Nat) (s : (GS)) (e : GS), loopN (fun s => m_readProduct_F_b4 N R_readUnit s) n s = some e → (e = r) → V x 2 Km 0 0 sz s 4 [(0, .ref (xb x + 0))] [] := by
    intro  n s e
    refine loop_walk (P := fun s => V x 2 Km 0 0 sz s 4 [(0, .ref (xb x + 0))] []) (E := fun e => e = r) ?_ n s e
    clear e s n
    rintro g q4 h hc4 he4
    replace h : m_readProduct_F_b4 N R_readUnit g = some q4 := h
    have J43 : ∀ (g : GS) (s0 : Int), m_readProduct_F_j43 N R_readUnit g s0 = some q4 → V x 2 Km 0 0 sz g 43 [(0, .ref (xb x + 0))] [vI s0] := by
      intro g s0 h
      unfold m_readProduct_F_j43 at h
      refine V_istore_n X dX10_readProduct_43 (by decide) (L' := [(1, vI s0), (0, .ref (xb x + 0))]) rfl ?_
      refine V_aload_n X dX10_readProduct_44 1 rfl ?_
      refine V_dup X dX10_readProduct_45 rfl ?_
      refine getX10 X (o := 0) (j := 4) rfl (by decide) q1552 (fv_0 rfl) dX10_readProduct_46 ?_
      refine V_iconst X dX10_readProduct_49 ?_
      refine V_iadd X dX10_readProduct_50 ?_
      refine putX10 X (o := 0) (j := 4) (a := ((gI g 904 0) + 1)) rfl (by decide) rfl rfl rfl q1552 dX10_readProduct_51 ?_
      refine V_aload_n X dX10_readProduct_54 1 rfl ?_
      obtain ⟨c55, hc55, h⟩ := bind_some_eq h
      refine V_callV (As := []) (rest := []) (s1 := []) (o := 0) X (H_readUnit (sI g 904 0 ((gI g 904 0) + 1)) c55 hc55) gwX10_readUnit hdX10_readUnit ⟨by dsimp only; omega, by dsimp only; omega⟩ rfl (by decide) rfl rfl rfl (Nat.le_of_ble_eq_true rfl) ⟨Nat.zero_le _, Nat.zero_le _⟩ dX10_readProduct_55 rfl rfl ?_
      refine V_aload_n X dX10_readProduct_58 1 rfl ?_
      refine V_iload_n X dX10_readProduct_59 0 rfl ?_
      refine V_iconst X dX10_readProduct_60 ?_
      obtain ⟨c61, hc61, h⟩ := bind_some_eq h
      refine V_callV (As := [vI s0, vI 0]) (rest := []) (s1 := []) (o := 0) X (con_m_emit c55 s0 0 c61 hc61) gwX10_emit hdX10_emit ⟨by dsimp only; omega, by dsimp only; omega⟩ rfl (by decide) rfl rfl rfl (Nat.le_of_ble_eq_true rfl) ⟨Nat.zero_le _, Nat.zero_le _⟩ dX10_readProduct_61 rfl rfl ?_
      refine V_goto (tgt := 4) X dX10_readProduct_64 (by decide) ?_
      exact V_sub [1] rfl (hc4 _ (Option.some.inj h).symm)
    have J29 : ∀ (g : GS), m_readProduct_F_j29 N R_readUnit g = some q4 → V x 2 Km 0 0 sz g 29 [(0, .ref (xb x + 0))] [] := by
      intro g h
      unfold m_readProduct_F_j29 at h
      refine V_aload_n X dX10_readProduct_29 0 rfl ?_
      obtain ⟨c30, hc30, h⟩ := bind_some_eq h
      refine V_callV (As := []) (rest := []) (s1 := [vI c30.1]) (o := 0) X (con_m_here N g c30 hc30) gwX10_here hdX10_here ⟨by dsimp only; omega, by dsimp only; omega⟩ rfl (by decide) rfl rfl rfl (Nat.le_of_ble_eq_true rfl) ⟨Nat.zero_le _, Nat.zero_le _⟩ dX10_readProduct_30 rfl rfl ?_
      refine V_bipush X dX10_readProduct_33 (by decide) ?_
      refine V_icmp_ne (tgt := 42) X dX10_readProduct_35 (by decide) h (fun h => ?_) (fun h => ?_)
      · refine V_iconst X dX10_readProduct_42 ?_
        exact V_sub [0] rfl (J43 _ _ h)
      · refine V_iconst X dX10_readProduct_38 ?_
        refine V_goto (tgt := 43) X dX10_readProduct_39 (by decide) ?_
        exact V_sub [0] rfl (J43 _ _ h)
    unfold m_readProduct_F_b4 at h
    show V x 2 Km 0 0 sz g 4 [(0, .ref (xb x + 0))] []
    refine V_aload_n X dX10_readProduct_4 0 rfl ?_
    obtain ⟨c5, hc5, h⟩ := bind_some_eq h
    refine V_callV (As := []) (rest := []) (s1 := [vI c5]) (o := 0) X (con_m_fine g c5 hc5) gwX10_fine hdX10_fine ⟨by dsimp only; omega, by dsimp only; omega⟩ rfl (by decide) rfl rfl rfl (Nat.le_of_ble_eq_true rfl) ⟨Nat.zero_le _, Nat.zero_le _⟩ dX10_readProduct_5 rfl rfl ?_
    refine V_if_eq (tgt := 67) X dX10_readProduct_8 (by decide) h (fun h => ?_) (fun h => ?_)
    · obtain ⟨e1, h, e1q⟩ := outR_some h
      replace h := h.trans (congrArg some (he4 _ e1q))
      have hr := Option.some.inj h
      subst hr
      exact V_end_v hX rfl dX10_readProduct_67
    · refine V_aload_n X dX10_readProduct_11 0 rfl ?_
      obtain ⟨c12, hc12, h⟩ := bind_some_eq h
      refine V_callV (As := []) (rest := []) (s1 := [vI c12.1]) (o := 0) X (con_m_here N g c12 hc12) gwX10_here hdX10_here ⟨by dsimp only; omega, by dsimp only; omega⟩ rfl (by decide) rfl rfl rfl (Nat.le_of_ble_eq_true rfl) ⟨Nat.zero_le _, Nat.zero_le _⟩ dX10_readProduct_12 rfl rfl ?_
      refine V_bipush X dX10_readProduct_15 (by decide) ?_
      refine V_icmp_eq (tgt := 29) X dX10_readProduct_17 (by decide) h (fun h => ?_) (fun h => ?_)
      · exact V_sub [0] rfl (J29 _ h)
      · refine V_aload_n X dX10_readProduct_20 0 rfl ?_
        obtain ⟨c21, hc21, h⟩ := bind_some_eq h
        refine V_callV (As := []) (rest := []) (s1 := [vI c21.1]) (o := 0) X (con_m_here N c12.2 c21 hc21) gwX10_here hdX10_here ⟨by dsimp only; omega, by dsimp only; omega⟩ rfl (by decide) rfl rfl rfl (Nat.le_of_ble_eq_true rfl) ⟨Nat.zero_le _, Nat.zero_le _⟩ dX10_readProduct_21 rfl rfl ?_
        refine V_bipush X dX10_readProduct_24 (by decide) ?_
        refine V_icmp_ne (tgt := 67) X dX10_readProduct_26 (by decide) h (fun h => ?_) (fun h => ?_)
        · obtain ⟨e2, h, e2q⟩ := outR_some h
          replace h := h.trans (congrArg some (he4 _ e2q))
          have hr := Option.some.inj h
          subst hr
          exact V_end_v hX rfl dX10_readProduct_67
        · exact V_sub [0] rfl (J29 _ h)
  unfold m_readProduct_F at h
  show V x 2 Km 0 0 sz g 0 [(0, .ref (xb x + 0))] []
  refine V_aload_n X dX10_readProduct_0 0 rfl ?_
  obtain ⟨c1, hc1, h⟩ := bind_some_eq h
  refine V_callV (As := []) (rest := []) (s1 := []) (o := 0) X (H_readUnit g c1 hc1) gwX10_readUnit hdX10_readUnit ⟨by dsimp only; omega, by dsimp only; omega⟩ rfl (by decide) rfl rfl rfl (Nat.le_of_ble_eq_true rfl) ⟨Nat.zero_le _, Nat.zero_le _⟩ dX10_readProduct_1 rfl rfl ?_
  exact V_sub [0] rfl (LL4 N c1 _ h rfl)
set_option maxHeartbeats 4000000 in
theorem con_m_readSum_F (N : Nat) (fr lo : Nat) (R_readProduct : GS → Option GS) (H_readProduct : ∀ (g : GS) (r : GS), R_readProduct g = some r → Con yX10_readProduct cX10_readProduct 2 none fr lo Km (fun b => [.ref (b + 0)]) g (fun _ => none) r) (g : GS) (r : GS) (h : m_readSum_F N R_readProduct g = some r) : Con yX10_readSum cX10_readSum 2 none (fr + 4) (lo + 94) Km (fun b => [.ref (b + 0)]) g (fun _ => none) r := by
  refine Con.of RX10 (by decide) rfl (fun b => Nat.le_of_ble_eq_true rfl) (fun x sz hX => ?_)
  have X := hX.1
  have LL4 : ∀  (n : Nat) (s : (GS)) (e : GS), loopN (fun s => m_readSum_F_b4 N R_readProduct s) n s = some e → (e = r) → V x 2 Km 0 0 sz s 4 [(0, .ref (xb x + 0))] [] := by
    intro  n s e
    refine loop_walk (P := fun s => V x 2 Km 0 0 sz s 4 [(0, .ref (xb x + 0))] []) (E := fun e => e = r) ?_ n s e
    clear e s n
    rintro g q4 h hc4 he4
    replace h : m_readSum_F_b4 N R_readProduct g = some q4 := h
    have J43 : ∀ (g : GS) (s0 : Int), m_readSum_F_j43 N R_readProduct g s0 = some q4 → V x 2 Km 0 0 sz g 43 [(0, .ref (xb x + 0))] [vI s0] := by
      intro g s0 h
      unfold m_readSum_F_j43 at h
      refine V_istore_n X dX10_readSum_43 (by decide) (L' := [(1, vI s0), (0, .ref (xb x + 0))]) rfl ?_
      refine V_aload_n X dX10_readSum_44 1 rfl ?_
      refine V_dup X dX10_readSum_45 rfl ?_
      refine getX10 X (o := 0) (j := 4) rfl (by decide) q1552 (fv_0 rfl) dX10_readSum_46 ?_
      refine V_iconst X dX10_readSum_49 ?_
      refine V_iadd X dX10_readSum_50 ?_
      refine putX10 X (o := 0) (j := 4) (a := ((gI g 904 0) + 1)) rfl (by decide) rfl rfl rfl q1552 dX10_readSum_51 ?_
      refine V_aload_n X dX10_readSum_54 1 rfl ?_
      obtain ⟨c55, hc55, h⟩ := bind_some_eq h
      refine V_callV (As := []) (rest := []) (s1 := []) (o := 0) X (H_readProduct (sI g 904 0 ((gI g 904 0) + 1)) c55 hc55) gwX10_readProduct hdX10_readProduct ⟨by dsimp only; omega, by dsimp only; omega⟩ rfl (by decide) rfl rfl rfl (Nat.le_of_ble_eq_true rfl) ⟨Nat.zero_le _, Nat.zero_le _⟩ dX10_readSum_55 rfl rfl ?_
      refine V_aload_n X dX10_readSum_58 1 rfl ?_
      refine V_iload_n X dX10_readSum_59 0 rfl ?_
      refine V_iconst X dX10_readSum_60 ?_
      obtain ⟨c61, hc61, h⟩ := bind_some_eq h
      refine V_callV (As := [vI s0, vI 0]) (rest := []) (s1 := []) (o := 0) X (con_m_emit c55 s0 0 c61 hc61) gwX10_emit hdX10_emit ⟨by dsimp only; omega, by dsimp only; omega⟩ rfl (by decide) rfl rfl rfl (Nat.le_of_ble_eq_true rfl) ⟨Nat.zero_le _, Nat.zero_le _⟩ dX10_readSum_61 rfl rfl ?_
      refine V_goto (tgt := 4) X dX10_readSum_64 (by decide) ?_
      exact V_sub [1] rfl (hc4 _ (Option.some.inj h).symm)
    have J29 : ∀ (g : GS), m_readSum_F_j29 N R_readProduct g = some q4 → V x 2 Km 0 0 sz g 29 [(0, .ref (xb x + 0))] [] := by
      intro g h
      unfold m_readSum_F_j29 at h
      refine V_aload_n X dX10_readSum_29 0 rfl ?_
      obtain ⟨c30, hc30, h⟩ := bind_some_eq h
      refine V_callV (As := []) (rest := []) (s1 := [vI c30.1]) (o := 0) X (con_m_here N g c30 hc30) gwX10_here hdX10_here ⟨by dsimp only; omega, by dsimp only; omega⟩ rfl (by decide) rfl rfl rfl (Nat.le_of_ble_eq_true rfl) ⟨Nat.zero_le _, Nat.zero_le _⟩ dX10_readSum_30 rfl rfl ?_
      refine V_bipush X dX10_readSum_33 (by decide) ?_
      refine V_icmp_ne (tgt := 42) X dX10_readSum_35 (by decide) h (fun h => ?_) (fun h => ?_)
      · refine V_iconst X dX10_readSum_42 ?_
        exact V_sub [0] rfl (J43 _ _ h)
      · refine V_iconst X dX10_readSum_38 ?_
        refine V_goto (tgt := 43) X dX10_readSum_39 (by decide) ?_
        exact V_sub [0] rfl (J43 _ _ h)
    unfold m_readSum_F_b4 at h
    show V x 2 Km 0 0 sz g 4 [(0, .ref (xb x + 0))] []
    refine V_aload_n X dX10_readSum_4 0 rfl ?_
    obtain ⟨c5, hc5, h⟩ := bind_some_eq h
    refine V_callV (As := []) (rest := []) (s1 := [vI c5]) (o := 0) X (con_m_fine g c5 hc5) gwX10_fine hdX10_fine ⟨by dsimp only; omega, by dsimp only; omega⟩ rfl (by decide) rfl rfl rfl (Nat.le_of_ble_eq_true rfl) ⟨Nat.zero_le _, Nat.zero_le _⟩ dX10_readSum_5 rfl rfl ?_
    refine V_if_eq (tgt := 67) X dX10_readSum_8 (by decide) h (fun h => ?_) (fun h => ?_)
    · obtain ⟨e1, h, e1q⟩ := outR_some h
      replace h := h.trans (congrArg some (he4 _ e1q))
      have hr := Option.some.inj h
      subst hr
      exact V_end_v hX rfl dX10_readSum_67
    · refine V_aload_n X dX10_readSum_11 0 rfl ?_
      obtain ⟨c12, hc12, h⟩ := bind_some_eq h
      refine V_callV (As := []) (rest := []) (s1 := [vI c12.1]) (o := 0) X (con_m_here N g c12 hc12) gwX10_here hdX10_here ⟨by dsimp only; omega, by dsimp only; omega⟩ rfl (by decide) rfl rfl rfl (Nat.le_of_ble_eq_true rfl) ⟨Nat.zero_le _, Nat.zero_le _⟩ dX10_readSum_12 rfl rfl ?_
      refine V_bipush X dX10_readSum_15 (by decide) ?_
      refine V_icmp_eq (tgt := 29) X dX10_readSum_17 (by decide) h (fun h => ?_) (fun h => ?_)
      · exact V_sub [0] rfl (J29 _ h)
      · refine V_aload_n X dX10_readSum_20 0 rfl ?_
        obtain ⟨c21, hc21, h⟩ := bind_some_eq h
        refine V_callV (As := []) (rest := []) (s1 := [vI c21.1]) (o := 0) X (con_m_here N c12.2 c21 hc21) gwX10_here hdX10_here ⟨by dsimp only; omega, by dsimp only; omega⟩ rfl (by decide) rfl rfl rfl (Nat.le_of_ble_eq_true rfl) ⟨Nat.zero_le _, Nat.zero_le _⟩ dX10_readSum_21 rfl rfl ?_
        refine V_bipush X dX10_readSum_24 (by decide) ?_
        refine V_icmp_ne (tgt := 67) X dX10_readSum_26 (by decide) h (fun h => ?_) (fun h => ?_)
        · obtain ⟨e2, h, e2q⟩ := outR_some h
          replace h := h.trans (congrArg some (he4 _ e2q))
          have hr := Option.some.inj h
          subst hr
          exact V_end_v hX rfl dX10_readSum_67
        · exact V_sub [0] rfl (J29 _ h)
  unfold m_readSum_F at h
  show V x 2 Km 0 0 sz g 0 [(0, .ref (xb x + 0))] []
  refine V_aload_n X dX10_readSum_0 0 rfl ?_
  obtain ⟨c1, hc1, h⟩ := bind_some_eq h
  refine V_callV (As := []) (rest := []) (s1 := []) (o := 0) X (H_readProduct g c1 hc1) gwX10_readProduct hdX10_readProduct ⟨by dsimp only; omega, by dsimp only; omega⟩ rfl (by decide) rfl rfl rfl (Nat.le_of_ble_eq_true rfl) ⟨Nat.zero_le _, Nat.zero_le _⟩ dX10_readSum_1 rfl rfl ?_
  exact V_sub [0] rfl (LL4 N c1 _ h rfl)
theorem con_m_readSum_R (N : Nat) : ∀ (d : Nat) (g : GS) (r : GS), m_readSum_R N d g = some r → Con yX10_readSum cX10_readSum 2 none (d * 21) (d * 566) Km (fun b => [.ref (b + 0)]) g (fun _ => none) r := by
  intro d
  induction d with
  | zero => intro g r h; cases h
  | succ d ih =>
    have hT := fun g a0 a1 r h => con_m_readTwo_F N (d * 21) (d * 566) (m_readSum_R N d) ih g a0 a1 r h
    have hU := fun g r h => con_m_readUnit_F N (d * 21 + 4) (d * 566 + 95) (m_readSum_R N d) (fun g r h => (ih g r h).mono (by omega) (by omega)) _ hT g r h
    have hP := fun g r h => con_m_readProduct_F N (d * 21 + 4 + 9) (d * 566 + 95 + 283) _ hU g r h
    intro g r h
    exact (con_m_readSum_F N _ _ _ hP g r h).mono (by omega) (by omega)
theorem con_m_readSum (N : Nat) (g : GS) (r : GS) (h : m_readSum N g = some r) : Con yX10_readSum cX10_readSum 2 none 336 9056 Km (fun b => [.ref (b + 0)]) g (fun _ => none) r := con_m_readSum_R N 16 g r h
set_option maxHeartbeats 4000000 in
theorem con_m_law (N : Nat) (g : GS) (l1 : Int) (r : (Int × GS)) (h : m_law N g l1 = some r) : Con yX10_law cX10_law 3 (some .int) 337 9077 Km (fun b => [.ref (b + 0), vI l1]) g (fun _ => some (vI r.1)) r.2 := by
  refine Con.of RX10 (by decide) rfl (fun b => Nat.le_of_ble_eq_true rfl) (fun x sz hX => ?_)
  have X := hX.1
  have J77 : ∀ (g : GS), m_law_j77 N g = some r → V x 3 Km 0 0 sz g 77 [(0, .ref (xb x + 0))] [] := by
    intro g h
    unfold m_law_j77 at h
    refine V_aload_n X dX10_law_77 0 rfl ?_
    refine V_iconst X dX10_law_78 ?_
    obtain ⟨c79, hc79, h⟩ := bind_some_eq h
    refine V_callV (As := [vI 1]) (rest := []) (s1 := [vI c79.1]) (o := 0) X (con_m_result g 1 c79 hc79) gwX10_result hdX10_result (by decide) rfl (by decide) rfl rfl rfl (Nat.le_of_ble_eq_true rfl) ⟨Nat.zero_le _, Nat.zero_le _⟩ dX10_law_79 rfl rfl ?_
    refine V_istore_n X dX10_law_82 (by decide) (L' := [(2, vI c79.1), (0, .ref (xb x + 0))]) rfl ?_
    refine V_aload_n X dX10_law_83 1 rfl ?_
    refine getX10 X (o := 0) (j := 5) rfl (by decide) q1553 (fv_0 rfl) dX10_law_84 ?_
    refine V_iconst X dX10_law_87 ?_
    refine V_icmp_eq (tgt := 93) X dX10_law_88 (by decide) h (fun h => ?_) (fun h => ?_)
    · refine V_aload_n X dX10_law_93 1 rfl ?_
      refine V_aload_n X dX10_law_94 1 rfl ?_
      refine getX10 X (o := 0) (j := 42) rfl (by decide) q1590 (fv_0 rfl) dX10_law_95 ?_
      refine putX10 X (o := 0) (j := 43) (a := (gI c79.2 942 0)) rfl (by decide) rfl rfl rfl q1591 dX10_law_98 ?_
      refine V_aload_n X dX10_law_101 1 rfl ?_
      refine V_aload_n X dX10_law_102 1 rfl ?_
      refine getX10 X (o := 0) (j := 37) rfl (by decide) q1585 (fv_1 (i := 19) rfl rfl) dX10_law_103 ?_
      refine V_aload_n X dX10_law_106 1 rfl ?_
      refine getX10 X (o := 0) (j := 39) rfl (by decide) q1587 (fv_1 (i := 21) rfl rfl) dX10_law_107 ?_
      refine V_aload_n X dX10_law_110 1 rfl ?_
      refine getX10 X (o := 0) (j := 42) rfl (by decide) q1590 (fv_0 rfl) dX10_law_111 ?_
      obtain ⟨c114, hc114, h⟩ := bind_some_eq h
      refine V_callV (As := [.ref (xb x + 19), .ref (xb x + 21), vI (gI (sI c79.2 943 0 (gI c79.2 942 0)) 942 0)]) (rest := []) (s1 := []) (o := 0) X (con_m_copies N 19 150 21 150 ⟨rfl, (by decide)⟩ ⟨rfl, (by decide)⟩ (sI c79.2 943 0 (gI c79.2 942 0)) (gI (sI c79.2 943 0 (gI c79.2 942 0)) 942 0) c114 hc114) gwX10_copies hdX10_copies (by decide) rfl (by decide) rfl rfl rfl (Nat.le_of_ble_eq_true rfl) ⟨Nat.zero_le _, Nat.zero_le _⟩ dX10_law_114 rfl rfl ?_
      refine V_aload_n X dX10_law_117 1 rfl ?_
      refine V_aload_n X dX10_law_118 1 rfl ?_
      refine getX10 X (o := 0) (j := 38) rfl (by decide) q1586 (fv_1 (i := 20) rfl rfl) dX10_law_119 ?_
      refine V_aload_n X dX10_law_122 1 rfl ?_
      refine getX10 X (o := 0) (j := 40) rfl (by decide) q1588 (fv_1 (i := 22) rfl rfl) dX10_law_123 ?_
      refine V_aload_n X dX10_law_126 1 rfl ?_
      refine getX10 X (o := 0) (j := 42) rfl (by decide) q1590 (fv_0 rfl) dX10_law_127 ?_
      obtain ⟨c130, hc130, h⟩ := bind_some_eq h
      refine V_callV (As := [.ref (xb x + 20), .ref (xb x + 22), vI (gI c114 942 0)]) (rest := []) (s1 := []) (o := 0) X (con_m_copies N 20 150 22 150 ⟨rfl, (by decide)⟩ ⟨rfl, (by decide)⟩ c114 (gI c114 942 0) c130 hc130) gwX10_copies hdX10_copies (by decide) rfl (by decide) rfl rfl rfl (Nat.le_of_ble_eq_true rfl) ⟨Nat.zero_le _, Nat.zero_le _⟩ dX10_law_130 rfl rfl ?_
      refine V_iload_n X dX10_law_133 0 rfl ?_
      have hr := Option.some.inj h
      subst hr
      exact V_end_i hX rfl dX10_law_134
    · refine V_iload_n X dX10_law_91 0 rfl ?_
      have hr := Option.some.inj h
      subst hr
      exact V_end_i hX rfl dX10_law_92
  have J30 : ∀ (g : GS) (l1 : Int) (s0 : Int), m_law_j30 N g l1 s0 = some r → V x 3 Km 0 0 sz g 30 [(0, .ref (xb x + 0)), (1, vI l1)] [vI s0, .ref (xb x + 0)] := by
    intro g l1 s0 h
    unfold m_law_j30 at h
    refine V_iconst X dX10_law_30 ?_
    refine V_iconst X dX10_law_31 ?_
    obtain ⟨c32, hc32, h⟩ := bind_some_eq h
    refine V_callV (As := [vI s0, vI 1, vI 1]) (rest := []) (s1 := [vI c32.1]) (o := 0) X (con_m_may g s0 1 1 c32 hc32) gwX10_may hdX10_may (by decide) rfl (by decide) rfl rfl rfl (Nat.le_of_ble_eq_true rfl) ⟨Nat.zero_le _, Nat.zero_le _⟩ dX10_law_32 rfl rfl ?_
    refine V_if_ne (tgt := 40) X dX10_law_35 (by decide) h (fun h => ?_) (fun h => ?_)
    · refine V_aload_n X dX10_law_40 0 rfl ?_
      refine V_iload_n X dX10_law_41 1 rfl ?_
      obtain ⟨c42, hc42, h⟩ := bind_some_eq h
      refine V_callV (As := [vI l1]) (rest := []) (s1 := []) (o := 0) X (con_m_begins c32.2 l1 c42 hc42) gwX10_begins hdX10_begins (by decide) rfl (by decide) rfl rfl rfl (Nat.le_of_ble_eq_true rfl) ⟨Nat.zero_le _, Nat.zero_le _⟩ dX10_law_42 rfl rfl ?_
      refine V_aload_n X dX10_law_45 0 rfl ?_
      refine V_iconst X dX10_law_46 ?_
      refine putX10 X (o := 0) (j := 42) (a := 0) rfl (by decide) rfl rfl rfl q1590 dX10_law_47 ?_
      refine V_aload_n X dX10_law_50 0 rfl ?_
      obtain ⟨c51, hc51, h⟩ := bind_some_eq h
      refine V_callV (As := []) (rest := []) (s1 := []) (o := 0) X (con_m_readSum N (sI c42 942 0 0) c51 hc51) gwX10_readSum hdX10_readSum (by decide) rfl (by decide) rfl rfl rfl (Nat.le_of_ble_eq_true rfl) ⟨Nat.zero_le _, Nat.zero_le _⟩ dX10_law_51 rfl rfl ?_
      refine V_aload_n X dX10_law_54 0 rfl ?_
      obtain ⟨c55, hc55, h⟩ := bind_some_eq h
      refine V_callV (As := []) (rest := []) (s1 := [vI c55]) (o := 0) X (con_m_fine c51 c55 hc55) gwX10_fine hdX10_fine (by decide) rfl (by decide) rfl rfl rfl (Nat.le_of_ble_eq_true rfl) ⟨Nat.zero_le _, Nat.zero_le _⟩ dX10_law_55 rfl rfl ?_
      refine V_if_eq (tgt := 77) X dX10_law_58 (by decide) h (fun h => ?_) (fun h => ?_)
      · exact V_sub [0] rfl (J77 _ h)
      · refine V_aload_n X dX10_law_61 0 rfl ?_
        obtain ⟨c62, hc62, h⟩ := bind_some_eq h
        refine V_callV (As := []) (rest := []) (s1 := [vI c62.1]) (o := 0) X (con_m_isMore N c51 c62 hc62) gwX10_isMore hdX10_isMore (by decide) rfl (by decide) rfl rfl rfl (Nat.le_of_ble_eq_true rfl) ⟨Nat.zero_le _, Nat.zero_le _⟩ dX10_law_62 rfl rfl ?_
        refine V_if_eq (tgt := 77) X dX10_law_65 (by decide) h (fun h => ?_) (fun h => ?_)
        · exact V_sub [0] rfl (J77 _ h)
        · refine V_aload_n X dX10_law_68 0 rfl ?_
          refine V_iconst X dX10_law_69 ?_
          refine V_aload_n X dX10_law_70 0 rfl ?_
          refine getX10 X (o := 0) (j := 4) rfl (by decide) q1552 (fv_0 rfl) dX10_law_71 ?_
          obtain ⟨c74, hc74, h⟩ := bind_some_eq h
          refine V_callV (As := [vI 1, vI (gI c62.2 904 0)]) (rest := []) (s1 := []) (o := 0) X (con_m_wrong c62.2 1 (gI c62.2 904 0) c74 hc74) gwX10_wrong hdX10_wrong (by decide) rfl (by decide) rfl rfl rfl (Nat.le_of_ble_eq_true rfl) ⟨Nat.zero_le _, Nat.zero_le _⟩ dX10_law_74 rfl rfl ?_
          exact V_sub [0] rfl (J77 _ h)
    · refine V_iconst X dX10_law_38 ?_
      have hr := Option.some.inj h
      subst hr
      exact V_end_i hX rfl dX10_law_39
  have J29 : ∀ (g : GS) (l1 : Int), m_law_j29 N g l1 = some r → V x 3 Km 0 0 sz g 29 [(0, .ref (xb x + 0)), (1, vI l1)] [.ref (xb x + 0)] := by
    intro g l1 h
    unfold m_law_j29 at h
    refine V_iconst X dX10_law_29 ?_
    exact V_sub [0, 1] rfl (J30 _ _ _ h)
  unfold m_law at h
  show V x 3 Km 0 0 sz g 0 [(0, .ref (xb x + 0)), (1, vI l1)] []
  refine V_aload_n X dX10_law_0 0 rfl ?_
  refine V_iconst X dX10_law_1 ?_
  refine putX10 X (o := 0) (j := 0) (a := 0) rfl (by decide) rfl rfl rfl q1548 dX10_law_2 ?_
  refine V_aload_n X dX10_law_5 0 rfl ?_
  refine V_iload_n X dX10_law_6 1 rfl ?_
  refine V_if_lt (tgt := 29) X dX10_law_7 (by decide) h (fun h => ?_) (fun h => ?_)
  · exact V_sub [0, 1] rfl (J29 _ _ h)
  · refine V_iload_n X dX10_law_10 1 rfl ?_
    refine V_aload_n X dX10_law_11 0 rfl ?_
    refine getX10 X (o := 0) (j := 2) rfl (by decide) q1550 (fv_0 rfl) dX10_law_12 ?_
    refine V_icmp_gt (tgt := 29) X dX10_law_15 (by decide) h (fun h => ?_) (fun h => ?_)
    · exact V_sub [0, 1] rfl (J29 _ _ h)
    · refine V_iload_n X dX10_law_18 1 rfl ?_
      refine V_sipush X dX10_law_19 (by decide) ?_
      refine V_icmp_gt (tgt := 29) X dX10_law_22 (by decide) h (fun h => ?_) (fun h => ?_)
      · exact V_sub [0, 1] rfl (J29 _ _ h)
      · refine V_iconst X dX10_law_25 ?_
        refine V_goto (tgt := 30) X dX10_law_26 (by decide) ?_
        exact V_sub [0, 1] rfl (J30 _ _ _ h)
set_option maxHeartbeats 4000000 in
theorem con_m_both (g : GS) (l0 : Int) (l1 : Int) (l2 : Int) (r : Int) (h : m_both l0 l1 l2 = some r) : Con yX10_both cX10_both 3 (some .int) 1 12 Km (fun b => [vI l0, vI l1, vI l2]) g (fun _ => some (vI r)) g := by
  refine Con.of RX10 (by decide) rfl (fun b => Nat.le_of_ble_eq_true rfl) (fun x sz hX => ?_)
  have X := hX.1
  have J65 : ∀ (l1 : Int) (l2 : Int) (s0 : Int) (s1 : Int), m_both_j65 l1 l2 s0 s1 = some r → V x 3 Km 0 0 sz g 65 [(1, vI l1), (2, vI l2)] [vI s0, vI s1] := by
    intro l1 l2 s0 s1 h
    unfold m_both_j65 at h
    refine V_icmp_ne (tgt := 72) X dX10_both_65 (by decide) h (fun h => ?_) (fun h => ?_)
    · refine V_iload_n X dX10_both_72 1 rfl ?_
      have hr := Option.some.inj h
      subst hr
      exact V_end_i hX rfl dX10_both_73
    · refine V_iload_n X dX10_both_68 0 rfl ?_
      refine V_goto (tgt := 73) X dX10_both_69 (by decide) ?_
      have hr := Option.some.inj h
      subst hr
      exact V_end_i hX rfl dX10_both_73
  have J54 : ∀ (l0 : Int) (l1 : Int) (l2 : Int) (s0 : Int), m_both_j54 l0 l1 l2 s0 = some r → V x 3 Km 0 0 sz g 54 [(0, vI l0), (1, vI l1), (2, vI l2)] [vI s0] := by
    intro l0 l1 l2 s0 h
    unfold m_both_j54 at h
    refine V_iload_n X dX10_both_54 0 rfl ?_
    refine V_bipush X dX10_both_55 (by decide) ?_
    refine V_icmp_ne (tgt := 64) X dX10_both_57 (by decide) h (fun h => ?_) (fun h => ?_)
    · refine V_iconst X dX10_both_64 ?_
      exact V_sub [1, 2] rfl (J65 _ _ _ _ h)
    · refine V_iconst X dX10_both_60 ?_
      refine V_goto (tgt := 65) X dX10_both_61 (by decide) ?_
      exact V_sub [1, 2] rfl (J65 _ _ _ _ h)
  unfold m_both at h
  show V x 3 Km 0 0 sz g 0 [(0, vI l0), (1, vI l1), (2, vI l2)] []
  refine V_iload_n X dX10_both_0 0 rfl ?_
  refine V_iconst X dX10_both_1 ?_
  refine V_icmp_ne (tgt := 9) X dX10_both_2 (by decide) h (fun h => ?_) (fun h => ?_)
  · refine V_iload_n X dX10_both_9 0 rfl ?_
    refine V_iconst X dX10_both_10 ?_
    refine V_icmp_ne (tgt := 18) X dX10_both_11 (by decide) h (fun h => ?_) (fun h => ?_)
    · refine V_iload_n X dX10_both_18 0 rfl ?_
      refine V_iconst X dX10_both_19 ?_
      refine V_icmp_ne (tgt := 27) X dX10_both_20 (by decide) h (fun h => ?_) (fun h => ?_)
      · refine V_iload_n X dX10_both_27 0 rfl ?_
        refine V_iconst X dX10_both_28 ?_
        refine V_icmp_ne (tgt := 44) X dX10_both_29 (by decide) h (fun h => ?_) (fun h => ?_)
        · refine V_iload_n X dX10_both_44 1 rfl ?_
          refine V_iload_n X dX10_both_45 2 rfl ?_
          refine V_icmp_ge (tgt := 53) X dX10_both_46 (by decide) h (fun h => ?_) (fun h => ?_)
          · refine V_iconst X dX10_both_53 ?_
            exact V_sub [0, 1, 2] rfl (J54 _ _ _ _ h)
          · refine V_iconst X dX10_both_49 ?_
            refine V_goto (tgt := 54) X dX10_both_50 (by decide) ?_
            exact V_sub [0, 1, 2] rfl (J54 _ _ _ _ h)
        · refine V_iload_n X dX10_both_32 2 rfl ?_
          refine V_if_ne (tgt := 40) X dX10_both_33 (by decide) h (fun h => ?_) (fun h => ?_)
          · refine V_iload_n X dX10_both_40 1 rfl ?_
            refine V_iload_n X dX10_both_41 2 rfl ?_
            refine V_idiv X dX10_both_42 h (fun h => ?_)
            have hr := Option.some.inj h
            subst hr
            exact V_end_i hX rfl dX10_both_43
          · refine V_iconst X dX10_both_36 ?_
            refine V_goto (tgt := 43) X dX10_both_37 (by decide) ?_
            have hr := Option.some.inj h
            subst hr
            exact V_end_i hX rfl dX10_both_43
      · refine V_iload_n X dX10_both_23 1 rfl ?_
        refine V_iload_n X dX10_both_24 2 rfl ?_
        refine V_imul X dX10_both_25 ?_
        have hr := Option.some.inj h
        subst hr
        exact V_end_i hX rfl dX10_both_26
    · refine V_iload_n X dX10_both_14 1 rfl ?_
      refine V_iload_n X dX10_both_15 2 rfl ?_
      refine V_isub X dX10_both_16 ?_
      have hr := Option.some.inj h
      subst hr
      exact V_end_i hX rfl dX10_both_17
  · refine V_iload_n X dX10_both_5 1 rfl ?_
    refine V_iload_n X dX10_both_6 2 rfl ?_
    refine V_iadd X dX10_both_7 ?_
    have hr := Option.some.inj h
    subst hr
    exact V_end_i hX rfl dX10_both_8
set_option maxHeartbeats 4000000 in
theorem con_m_valueNow (N : Nat) (g : GS) (r : (Int × GS)) (h : m_valueNow N g = some r) : Con yX10_valueNow cX10_valueNow 4 (some .int) 2 34 Km (fun b => [.ref (b + 0)]) g (fun _ => some (vI r.1)) r.2 := by
  refine Con.of RX10 (by decide) rfl (fun b => Nat.le_of_ble_eq_true rfl) (fun x sz hX => ?_)
  have X := hX.1
  have LL4 : ∀  (n : Nat) (s : (GS × Int × Int)) (e : (GS)), loopN (fun s => m_valueNow_b4 N s.1 s.2.1 s.2.2) n s = some e → V x 4 Km 0 0 sz e 95 [(0, .ref (xb x + 0))] [] → V x 4 Km 0 0 sz s.1 4 [(0, .ref (xb x + 0)), (1, vI s.2.1), (2, vI s.2.2)] [] := by
    intro  n s e
    refine loop_walk (P := fun s => V x 4 Km 0 0 sz s.1 4 [(0, .ref (xb x + 0)), (1, vI s.2.1), (2, vI s.2.2)] []) (E := fun e => V x 4 Km 0 0 sz e 95 [(0, .ref (xb x + 0))] []) ?_ n s e
    clear e s n
    rintro ⟨g, l1, l2⟩ q4 h hc4 he4
    replace h : m_valueNow_b4 N g l1 l2 = some q4 := h
    have J53 : ∀ (g : GS) (l1 : Int) (l2 : Int) (s0 : Int) (s1 : Int), m_valueNow_j53 N g l1 l2 s0 s1 = some q4 → V x 4 Km 0 0 sz g 53 [(0, .ref (xb x + 0)), (1, vI l1), (2, vI l2)] [vI s0, vI s1, .ref (xb x + 23)] := by
      intro g l1 l2 s0 s1 h
      unfold m_valueNow_j53 at h
      refine V_iast X (o := 23) (n := 150) rfl (by decide) dX10_valueNow_53 h (fun g53 h => ?_)
      refine V_iinc X dX10_valueNow_54 1 rfl (by decide) (L' := [(1, vI (l1 + 1)), (0, .ref (xb x + 0)), (2, vI l2)]) rfl ?_
      refine V_goto (tgt := 89) X dX10_valueNow_57 (by decide) ?_
      refine V_iinc X dX10_valueNow_89 2 rfl (by decide) (L' := [(2, vI (l2 + 1)), (1, vI (l1 + 1)), (0, .ref (xb x + 0))]) rfl ?_
      refine V_goto (tgt := 4) X dX10_valueNow_92 (by decide) ?_
      exact V_sub [2, 1, 0] rfl (hc4 _ (Option.some.inj h).symm)
    unfold m_valueNow_b4 at h
    show V x 4 Km 0 0 sz g 4 [(0, .ref (xb x + 0)), (1, vI l1), (2, vI l2)] []
    refine V_iload_n X dX10_valueNow_4 2 rfl ?_
    refine V_aload_n X dX10_valueNow_5 0 rfl ?_
    refine getX10 X (o := 0) (j := 43) rfl (by decide) q1591 (fv_0 rfl) dX10_valueNow_6 ?_
    refine V_icmp_ge (tgt := 95) X dX10_valueNow_9 (by decide) h (fun h => ?_) (fun h => ?_)
    · exact V_sub [0] rfl (he4 _ (Option.some.inj h).symm)
    · refine V_aload_n X dX10_valueNow_12 0 rfl ?_
      refine getX10 X (o := 0) (j := 39) rfl (by decide) q1587 (fv_1 (i := 21) rfl rfl) dX10_valueNow_13 ?_
      refine V_iload_n X dX10_valueNow_16 2 rfl ?_
      refine V_iald X (o := 21) (n := 150) rfl (by decide) dX10_valueNow_17 h (fun v17 h => ?_)
      refine V_istore_n X dX10_valueNow_18 (by decide) (L' := [(3, vI v17), (0, .ref (xb x + 0)), (1, vI l1), (2, vI l2)]) rfl ?_
      refine V_iload_n X dX10_valueNow_19 0 rfl ?_
      refine V_iconst X dX10_valueNow_20 ?_
      refine V_icmp_gt (tgt := 60) X dX10_valueNow_21 (by decide) h (fun h => ?_) (fun h => ?_)
      · refine V_iinc X dX10_valueNow_60 2 rfl (by decide) (L' := [(1, vI (l1 + (-1))), (3, vI v17), (0, .ref (xb x + 0)), (2, vI l2)]) rfl ?_
        refine V_aload_n X dX10_valueNow_63 2 rfl ?_
        refine getX10 X (o := 0) (j := 41) rfl (by decide) q1589 (fv_1 (i := 23) rfl rfl) dX10_valueNow_64 ?_
        refine V_iload_n X dX10_valueNow_67 0 rfl ?_
        refine V_iconst X dX10_valueNow_68 ?_
        refine V_isub X dX10_valueNow_69 ?_
        refine V_iload_n X dX10_valueNow_70 1 rfl ?_
        refine V_aload_n X dX10_valueNow_71 2 rfl ?_
        refine getX10 X (o := 0) (j := 41) rfl (by decide) q1589 (fv_1 (i := 23) rfl rfl) dX10_valueNow_72 ?_
        refine V_iload_n X dX10_valueNow_75 0 rfl ?_
        refine V_iconst X dX10_valueNow_76 ?_
        refine V_isub X dX10_valueNow_77 ?_
        refine V_iald X (o := 23) (n := 150) rfl (by decide) dX10_valueNow_78 h (fun v78 h => ?_)
        refine V_aload_n X dX10_valueNow_79 2 rfl ?_
        refine getX10 X (o := 0) (j := 41) rfl (by decide) q1589 (fv_1 (i := 23) rfl rfl) dX10_valueNow_80 ?_
        refine V_iload_n X dX10_valueNow_83 0 rfl ?_
        refine V_iald X (o := 23) (n := 150) rfl (by decide) dX10_valueNow_84 h (fun v84 h => ?_)
        obtain ⟨c85, hc85, h⟩ := bind_some_eq h
        refine V_callS (As := [vI v17, vI v78, vI v84]) (rest := [vI ((l1 + (-1)) - 1), .ref (xb x + 23)]) (s1 := [vI c85, vI ((l1 + (-1)) - 1), .ref (xb x + 23)]) X (con_m_both g v17 v78 v84 c85 hc85) gwX10_both hdX10_both (by decide) rfl rfl (Nat.le_of_ble_eq_true rfl) ⟨Nat.zero_le _, Nat.zero_le _⟩ dX10_valueNow_85 rfl rfl ?_
        refine V_iast X (o := 23) (n := 150) rfl (by decide) dX10_valueNow_88 h (fun g88 h => ?_)
        refine V_iinc X dX10_valueNow_89 3 rfl (by decide) (L' := [(2, vI (l2 + 1)), (1, vI (l1 + (-1))), (3, vI v17), (0, .ref (xb x + 0))]) rfl ?_
        refine V_goto (tgt := 4) X dX10_valueNow_92 (by decide) ?_
        exact V_sub [3, 1, 0] rfl (hc4 _ (Option.some.inj h).symm)
      · refine V_aload_n X dX10_valueNow_24 1 rfl ?_
        refine getX10 X (o := 0) (j := 41) rfl (by decide) q1589 (fv_1 (i := 23) rfl rfl) dX10_valueNow_25 ?_
        refine V_iload_n X dX10_valueNow_28 2 rfl ?_
        refine V_iload_n X dX10_valueNow_29 0 rfl ?_
        refine V_if_ne (tgt := 42) X dX10_valueNow_30 (by decide) h (fun h => ?_) (fun h => ?_)
        · refine V_aload_n X dX10_valueNow_42 1 rfl ?_
          refine getX10 X (o := 0) (j := 44) rfl (by decide) q1592 (fv_1 (i := 24) rfl rfl) dX10_valueNow_43 ?_
          refine V_aload_n X dX10_valueNow_46 1 rfl ?_
          refine getX10 X (o := 0) (j := 40) rfl (by decide) q1588 (fv_1 (i := 22) rfl rfl) dX10_valueNow_47 ?_
          refine V_iload_n X dX10_valueNow_50 3 rfl ?_
          refine V_iald X (o := 22) (n := 150) rfl (by decide) dX10_valueNow_51 h (fun v51 h => ?_)
          refine V_iald X (o := 24) (n := 6) rfl (by decide) dX10_valueNow_52 h (fun v52 h => ?_)
          exact V_sub [1, 2, 3] rfl (J53 _ _ _ _ _ h)
        · refine V_aload_n X dX10_valueNow_33 1 rfl ?_
          refine getX10 X (o := 0) (j := 40) rfl (by decide) q1588 (fv_1 (i := 22) rfl rfl) dX10_valueNow_34 ?_
          refine V_iload_n X dX10_valueNow_37 3 rfl ?_
          refine V_iald X (o := 22) (n := 150) rfl (by decide) dX10_valueNow_38 h (fun v38 h => ?_)
          refine V_goto (tgt := 53) X dX10_valueNow_39 (by decide) ?_
          exact V_sub [1, 2, 3] rfl (J53 _ _ _ _ _ h)
  unfold m_valueNow at h
  show V x 4 Km 0 0 sz g 0 [(0, .ref (xb x + 0))] []
  refine V_iconst X dX10_valueNow_0 ?_
  refine V_istore_n X dX10_valueNow_1 (by decide) (L' := [(1, vI 0), (0, .ref (xb x + 0))]) rfl ?_
  refine V_iconst X dX10_valueNow_2 ?_
  refine V_istore_n X dX10_valueNow_3 (by decide) (L' := [(2, vI 0), (1, vI 0), (0, .ref (xb x + 0))]) rfl ?_
  obtain ⟨t1, t1q, h⟩ := bind_some_eq h
  refine V_sub [2, 1, 0] rfl (LL4 N (g, 0, 0) _ t1q ?_)
  refine V_aload_n X dX10_valueNow_95 0 rfl ?_
  refine getX10 X (o := 0) (j := 41) rfl (by decide) q1589 (fv_1 (i := 23) rfl rfl) dX10_valueNow_96 ?_
  refine V_iconst X dX10_valueNow_99 ?_
  refine V_iald X (o := 23) (n := 150) rfl (by decide) dX10_valueNow_100 h (fun v100 h => ?_)
  have hr := Option.some.inj h
  subst hr
  exact V_end_i hX rfl dX10_valueNow_101
set_option maxHeartbeats 4000000 in
theorem con_m_lastsNow (N : Nat) (g : GS) (r : (Int × GS)) (h : m_lastsNow N g = some r) : Con yX10_lastsNow cX10_lastsNow 2 (some .int) 3 57 Km (fun b => [.ref (b + 0)]) g (fun _ => some (vI r.1)) r.2 := by
  refine Con.of RX10 (by decide) rfl (fun b => Nat.le_of_ble_eq_true rfl) (fun x sz hX => ?_)
  have X := hX.1
  have J20 : ∀ (g : GS) (s0 : Int), m_lastsNow_j20 N g s0 = some r → V x 2 Km 0 0 sz g 20 [] [vI s0] := by
    intro g s0 h
    unfold m_lastsNow_j20 at h
    refine V_istore_n X dX10_lastsNow_20 (by decide) (L' := [(1, vI s0)]) rfl ?_
    refine V_iload_n X dX10_lastsNow_21 0 rfl ?_
    refine V_iconst X dX10_lastsNow_22 ?_
    refine V_icmp_ge (tgt := 30) X dX10_lastsNow_23 (by decide) h (fun h => ?_) (fun h => ?_)
    · refine V_iload_n X dX10_lastsNow_30 0 rfl ?_
      refine V_bipush X dX10_lastsNow_31 (by decide) ?_
      refine V_icmp_le (tgt := 41) X dX10_lastsNow_33 (by decide) h (fun h => ?_) (fun h => ?_)
      · refine V_iload_n X dX10_lastsNow_41 0 rfl ?_
        have hr := Option.some.inj h
        subst hr
        exact V_end_i (a := s0) hX (congrArg (fun q => some (Value.int q)) (w32_eqv s0)) dX10_lastsNow_42
      · refine V_bipush X dX10_lastsNow_36 (by decide) ?_
        refine V_goto (tgt := 42) X dX10_lastsNow_38 (by decide) ?_
        have hr := Option.some.inj h
        subst hr
        exact V_end_i hX rfl dX10_lastsNow_42
    · refine V_iconst X dX10_lastsNow_26 ?_
      refine V_goto (tgt := 42) X dX10_lastsNow_27 (by decide) ?_
      have hr := Option.some.inj h
      subst hr
      exact V_end_i hX rfl dX10_lastsNow_42
  unfold m_lastsNow at h
  show V x 2 Km 0 0 sz g 0 [(0, .ref (xb x + 0))] []
  refine V_aload_n X dX10_lastsNow_0 0 rfl ?_
  refine getX10 X (o := 0) (j := 43) rfl (by decide) q1591 (fv_0 rfl) dX10_lastsNow_1 ?_
  refine V_if_ne (tgt := 16) X dX10_lastsNow_4 (by decide) h (fun h => ?_) (fun h => ?_)
  · refine V_aload_n X dX10_lastsNow_16 0 rfl ?_
    obtain ⟨c17, hc17, h⟩ := bind_some_eq h
    refine V_callV (As := []) (rest := []) (s1 := [vI c17.1]) (o := 0) X (con_m_valueNow N g c17 hc17) gwX10_valueNow hdX10_valueNow (by decide) rfl (by decide) rfl rfl rfl (Nat.le_of_ble_eq_true rfl) ⟨Nat.zero_le _, Nat.zero_le _⟩ dX10_lastsNow_17 rfl rfl ?_
    exact V_sub [] rfl (J20 _ _ h)
  · refine V_aload_n X dX10_lastsNow_7 0 rfl ?_
    refine getX10 X (o := 0) (j := 44) rfl (by decide) q1592 (fv_1 (i := 24) rfl rfl) dX10_lastsNow_8 ?_
    refine V_iconst X dX10_lastsNow_11 ?_
    refine V_iald X (o := 24) (n := 6) rfl (by decide) dX10_lastsNow_12 h (fun v12 h => ?_)
    refine V_goto (tgt := 20) X dX10_lastsNow_13 (by decide) ?_
    exact V_sub [] rfl (J20 _ _ h)
set_option maxHeartbeats 4000000 in
theorem con_m_readPeople (N : Nat) (g : GS) (r : (Int × GS)) (h : m_readPeople N g = some r) : Con yX10_readPeople cX10_readPeople 4 (some .int) 3 59 Km (fun b => [.ref (b + 0)]) g (fun _ => some (vI r.1)) r.2 := by
  refine Con.of RX10 (by decide) rfl (fun b => Nat.le_of_ble_eq_true rfl) (fun x sz hX => ?_)
  have X := hX.1
  have J79 : ∀ (g : GS) (l1 : Int) (l3 : Int), m_readPeople_j79 N g l1 l3 = some r → V x 4 Km 0 0 sz g 79 [(0, .ref (xb x + 0)), (1, vI l1), (3, vI l3)] [] := by
    intro g l1 l3 h
    unfold m_readPeople_j79 at h
    refine V_aload_n X dX10_readPeople_79 0 rfl ?_
    obtain ⟨c80, hc80, h⟩ := bind_some_eq h
    refine V_callV (As := []) (rest := []) (s1 := [vI c80]) (o := 0) X (con_m_fine g c80 hc80) gwX10_fine hdX10_fine (by decide) rfl (by decide) rfl rfl rfl (Nat.le_of_ble_eq_true rfl) ⟨Nat.zero_le _, Nat.zero_le _⟩ dX10_readPeople_80 rfl rfl ?_
    refine V_if_eq (tgt := 96) X dX10_readPeople_83 (by decide) h (fun h => ?_) (fun h => ?_)
    · refine V_iconst X dX10_readPeople_96 ?_
      have hr := Option.some.inj h
      subst hr
      exact V_end_i hX rfl dX10_readPeople_97
    · refine V_iconst X dX10_readPeople_86 ?_
      refine V_iload_n X dX10_readPeople_87 1 rfl ?_
      refine V_ishl X dX10_readPeople_88 ?_
      refine V_iconst X dX10_readPeople_89 ?_
      refine V_iload_n X dX10_readPeople_90 2 rfl ?_
      refine V_ishl X dX10_readPeople_91 ?_
      refine V_ior X dX10_readPeople_92 ?_
      refine V_goto (tgt := 97) X dX10_readPeople_93 (by decide) ?_
      have hr := Option.some.inj h
      subst hr
      exact V_end_i hX rfl dX10_readPeople_97
  have J29 : ∀ (g : GS) (l1 : Int), m_readPeople_j29 N g l1 = some r → V x 4 Km 0 0 sz g 29 [(0, .ref (xb x + 0)), (1, vI l1)] [] := by
    intro g l1 h
    unfold m_readPeople_j29 at h
    refine V_aload_n X dX10_readPeople_29 0 rfl ?_
    obtain ⟨c30, hc30, h⟩ := bind_some_eq h
    refine V_callV (As := []) (rest := []) (s1 := [vI c30]) (o := 0) X (con_m_fine g c30 hc30) gwX10_fine hdX10_fine (by decide) rfl (by decide) rfl rfl rfl (Nat.le_of_ble_eq_true rfl) ⟨Nat.zero_le _, Nat.zero_le _⟩ dX10_readPeople_30 rfl rfl ?_
    refine V_if_eq (tgt := 42) X dX10_readPeople_33 (by decide) h (fun h => ?_) (fun h => ?_)
    · refine V_iconst X dX10_readPeople_42 ?_
      have hr := Option.some.inj h
      subst hr
      exact V_end_i hX rfl dX10_readPeople_43
    · refine V_iconst X dX10_readPeople_36 ?_
      refine V_iload_n X dX10_readPeople_37 1 rfl ?_
      refine V_ishl X dX10_readPeople_38 ?_
      refine V_goto (tgt := 43) X dX10_readPeople_39 (by decide) ?_
      have hr := Option.some.inj h
      subst hr
      exact V_end_i hX rfl dX10_readPeople_43
  unfold m_readPeople at h
  show V x 4 Km 0 0 sz g 0 [(0, .ref (xb x + 0))] []
  refine V_aload_n X dX10_readPeople_0 0 rfl ?_
  refine V_iconst X dX10_readPeople_1 ?_
  refine V_aload_n X dX10_readPeople_2 0 rfl ?_
  refine getX10 X (o := 0) (j := 32) rfl (by decide) q1580 (fv_0 rfl) dX10_readPeople_3 ?_
  refine V_iconst X dX10_readPeople_6 ?_
  refine V_isub X dX10_readPeople_7 ?_
  obtain ⟨c8, hc8, h⟩ := bind_some_eq h
  refine V_callV (As := [vI 0, vI ((gI g 932 0) - 1)]) (rest := []) (s1 := [vI c8.1]) (o := 0) X (con_m_readNumber N g 0 ((gI g 932 0) - 1) c8 hc8) gwX10_readNumber hdX10_readNumber (by decide) rfl (by decide) rfl rfl rfl (Nat.le_of_ble_eq_true rfl) ⟨Nat.zero_le _, Nat.zero_le _⟩ dX10_readPeople_8 rfl rfl ?_
  refine V_istore_n X dX10_readPeople_11 (by decide) (L' := [(1, vI c8.1), (0, .ref (xb x + 0))]) rfl ?_
  refine V_aload_n X dX10_readPeople_12 1 rfl ?_
  obtain ⟨c13, hc13, h⟩ := bind_some_eq h
  refine V_callV (As := []) (rest := []) (s1 := [vI c13]) (o := 0) X (con_m_fine c8.2 c13 hc13) gwX10_fine hdX10_fine (by decide) rfl (by decide) rfl rfl rfl (Nat.le_of_ble_eq_true rfl) ⟨Nat.zero_le _, Nat.zero_le _⟩ dX10_readPeople_13 rfl rfl ?_
  refine V_if_eq (tgt := 29) X dX10_readPeople_16 (by decide) h (fun h => ?_) (fun h => ?_)
  · exact V_sub [1, 0] rfl (J29 _ _ h)
  · refine V_aload_n X dX10_readPeople_19 1 rfl ?_
    obtain ⟨c20, hc20, h⟩ := bind_some_eq h
    refine V_callV (As := []) (rest := []) (s1 := [vI c20.1]) (o := 0) X (con_m_here N c8.2 c20 hc20) gwX10_here hdX10_here (by decide) rfl (by decide) rfl rfl rfl (Nat.le_of_ble_eq_true rfl) ⟨Nat.zero_le _, Nat.zero_le _⟩ dX10_readPeople_20 rfl rfl ?_
    obtain ⟨c23, hc23, h⟩ := bind_some_eq h
    refine V_callS (As := [vI c20.1]) (rest := []) (s1 := [vI c23]) X (con_m_isDigit c20.2 c20.1 c23 hc23) gwX10_isDigit hdX10_isDigit (by decide) rfl rfl (Nat.le_of_ble_eq_true rfl) ⟨Nat.zero_le _, Nat.zero_le _⟩ dX10_readPeople_23 rfl rfl ?_
    refine V_if_ne (tgt := 44) X dX10_readPeople_26 (by decide) h (fun h => ?_) (fun h => ?_)
    · refine V_aload_n X dX10_readPeople_44 1 rfl ?_
      refine getX10 X (o := 0) (j := 4) rfl (by decide) q1552 (fv_0 rfl) dX10_readPeople_45 ?_
      refine V_istore_n X dX10_readPeople_48 (by decide) (L' := [(2, vI (gI c20.2 904 0)), (1, vI c8.1), (0, .ref (xb x + 0))]) rfl ?_
      refine V_aload_n X dX10_readPeople_49 2 rfl ?_
      refine V_iconst X dX10_readPeople_50 ?_
      refine V_aload_n X dX10_readPeople_51 2 rfl ?_
      refine getX10 X (o := 0) (j := 32) rfl (by decide) q1580 (fv_0 rfl) dX10_readPeople_52 ?_
      refine V_iconst X dX10_readPeople_55 ?_
      refine V_isub X dX10_readPeople_56 ?_
      obtain ⟨c57, hc57, h⟩ := bind_some_eq h
      refine V_callV (As := [vI 0, vI ((gI c20.2 932 0) - 1)]) (rest := []) (s1 := [vI c57.1]) (o := 0) X (con_m_readNumber N c20.2 0 ((gI c20.2 932 0) - 1) c57 hc57) gwX10_readNumber hdX10_readNumber (by decide) rfl (by decide) rfl rfl rfl (Nat.le_of_ble_eq_true rfl) ⟨Nat.zero_le _, Nat.zero_le _⟩ dX10_readPeople_57 rfl rfl ?_
      refine V_istore_n X dX10_readPeople_60 (by decide) (L' := [(3, vI c57.1), (2, vI (gI c20.2 904 0)), (1, vI c8.1), (0, .ref (xb x + 0))]) rfl ?_
      refine V_aload_n X dX10_readPeople_61 3 rfl ?_
      obtain ⟨c62, hc62, h⟩ := bind_some_eq h
      refine V_callV (As := []) (rest := []) (s1 := [vI c62]) (o := 0) X (con_m_fine c57.2 c62 hc62) gwX10_fine hdX10_fine (by decide) rfl (by decide) rfl rfl rfl (Nat.le_of_ble_eq_true rfl) ⟨Nat.zero_le _, Nat.zero_le _⟩ dX10_readPeople_62 rfl rfl ?_
      refine V_if_eq (tgt := 79) X dX10_readPeople_65 (by decide) h (fun h => ?_) (fun h => ?_)
      · exact V_sub [3, 2, 0] rfl (J79 _ _ _ h)
      · refine V_iload_n X dX10_readPeople_68 0 rfl ?_
        refine V_iload_n X dX10_readPeople_69 2 rfl ?_
        refine V_icmp_ne (tgt := 79) X dX10_readPeople_70 (by decide) h (fun h => ?_) (fun h => ?_)
        · exact V_sub [3, 2, 0] rfl (J79 _ _ _ h)
        · refine V_aload_n X dX10_readPeople_73 3 rfl ?_
          refine V_iconst X dX10_readPeople_74 ?_
          refine V_iload_n X dX10_readPeople_75 1 rfl ?_
          obtain ⟨c76, hc76, h⟩ := bind_some_eq h
          refine V_callV (As := [vI 2, vI (gI c20.2 904 0)]) (rest := []) (s1 := []) (o := 0) X (con_m_wrong c57.2 2 (gI c20.2 904 0) c76 hc76) gwX10_wrong hdX10_wrong (by decide) rfl (by decide) rfl rfl rfl (Nat.le_of_ble_eq_true rfl) ⟨Nat.zero_le _, Nat.zero_le _⟩ dX10_readPeople_76 rfl rfl ?_
          exact V_sub [3, 2, 0] rfl (J79 _ _ _ h)
    · exact V_sub [1, 0] rfl (J29 _ _ h)
set_option maxHeartbeats 4000000 in
theorem con_m_plan (N : Nat) (g : GS) (l1 : Int) (r : (Int × GS)) (h : m_plan N g l1 = some r) : Con yX10_plan cX10_plan 7 (some .int) 4 82 Km (fun b => [.ref (b + 0), vI l1]) g (fun _ => some (vI r.1)) r.2 := by
  refine Con.of RX10 (by decide) rfl (fun b => Nat.le_of_ble_eq_true rfl) (fun x sz hX => ?_)
  have X := hX.1
  have J163 : ∀ (g : GS) (l2 : Int), m_plan_j163 N g l2 = some r → V x 7 Km 0 0 sz g 163 [(0, .ref (xb x + 0)), (2, vI l2)] [] := by
    intro g l2 h
    unfold m_plan_j163 at h
    refine V_aload_n X dX10_plan_163 0 rfl ?_
    refine V_iload_n X dX10_plan_164 1 rfl ?_
    obtain ⟨c165, hc165, h⟩ := bind_some_eq h
    refine V_callV (As := [vI l2]) (rest := []) (s1 := [vI c165.1]) (o := 0) X (con_m_result g l2 c165 hc165) gwX10_result hdX10_result (by decide) rfl (by decide) rfl rfl rfl (Nat.le_of_ble_eq_true rfl) ⟨Nat.zero_le _, Nat.zero_le _⟩ dX10_plan_165 rfl rfl ?_
    refine V_istore X dX10_plan_168 (by decide) (L' := [(4, vI c165.1), (0, .ref (xb x + 0)), (2, vI l2)]) rfl ?_
    refine V_aload_n X dX10_plan_170 1 rfl ?_
    refine getX10 X (o := 0) (j := 5) rfl (by decide) q1553 (fv_0 rfl) dX10_plan_171 ?_
    refine V_iconst X dX10_plan_174 ?_
    refine V_icmp_eq (tgt := 181) X dX10_plan_175 (by decide) h (fun h => ?_) (fun h => ?_)
    · refine V_aload_n X dX10_plan_181 1 rfl ?_
      refine V_iload_n X dX10_plan_182 2 rfl ?_
      refine putX10 X (o := 0) (j := 49) (a := l2) rfl (by decide) rfl rfl rfl q1597 dX10_plan_183 ?_
      refine V_aload_n X dX10_plan_186 1 rfl ?_
      refine V_aload_n X dX10_plan_187 1 rfl ?_
      refine getX10 X (o := 0) (j := 45) rfl (by decide) q1593 (fv_1 (i := 25) rfl rfl) dX10_plan_188 ?_
      refine V_aload_n X dX10_plan_191 1 rfl ?_
      refine getX10 X (o := 0) (j := 46) rfl (by decide) q1594 (fv_1 (i := 26) rfl rfl) dX10_plan_192 ?_
      refine V_iconst X dX10_plan_195 ?_
      refine V_iload_n X dX10_plan_196 2 rfl ?_
      refine V_imul X dX10_plan_197 ?_
      obtain ⟨c198, hc198, h⟩ := bind_some_eq h
      refine V_callV (As := [.ref (xb x + 25), .ref (xb x + 26), vI (2 * l2)]) (rest := []) (s1 := []) (o := 0) X (con_m_copies N 25 24 26 24 ⟨rfl, (by decide)⟩ ⟨rfl, (by decide)⟩ (sI c165.2 949 0 l2) (2 * l2) c198 hc198) gwX10_copies hdX10_copies (by decide) rfl (by decide) rfl rfl rfl (Nat.le_of_ble_eq_true rfl) ⟨Nat.zero_le _, Nat.zero_le _⟩ dX10_plan_198 rfl rfl ?_
      refine V_aload_n X dX10_plan_201 1 rfl ?_
      refine V_iconst X dX10_plan_202 ?_
      refine putX10 X (o := 0) (j := 70) (a := 0) rfl (by decide) rfl rfl rfl q1618 dX10_plan_203 ?_
      refine V_iload X dX10_plan_206 0 rfl ?_
      have hr := Option.some.inj h
      subst hr
      exact V_end_i hX rfl dX10_plan_208
    · refine V_iload X dX10_plan_178 0 rfl ?_
      have hr := Option.some.inj h
      subst hr
      exact V_end_i hX rfl dX10_plan_180
  have LL49 : ∀  (n : Nat) (s : (GS × Int × Int)) (e : (GS × Int)), loopN (fun s => m_plan_b49 N s.1 s.2.1 s.2.2) n s = some e → V x 7 Km 0 0 sz e.1 163 [(0, .ref (xb x + 0)), (2, vI e.2)] [] → V x 7 Km 0 0 sz s.1 49 [(0, .ref (xb x + 0)), (2, vI s.2.1), (3, vI s.2.2)] [] := by
    intro  n s e
    refine loop_walk (P := fun s => V x 7 Km 0 0 sz s.1 49 [(0, .ref (xb x + 0)), (2, vI s.2.1), (3, vI s.2.2)] []) (E := fun e => V x 7 Km 0 0 sz e.1 163 [(0, .ref (xb x + 0)), (2, vI e.2)] []) ?_ n s e
    clear e s n
    rintro ⟨g, l2, l3⟩ q49 h hc49 he49
    replace h : m_plan_b49 N g l2 l3 = some q49 := h
    have J106 : ∀ (g : GS) (l2 : Int) (l3 : Int) (l5 : Int), m_plan_j106 N g l2 l3 l5 = some q49 → V x 7 Km 0 0 sz g 106 [(0, .ref (xb x + 0)), (2, vI l2), (3, vI l3), (5, vI l5)] [] := by
      intro g l2 l3 l5 h
      unfold m_plan_j106 at h
      refine V_aload_n X dX10_plan_106 0 rfl ?_
      obtain ⟨c107, hc107, h⟩ := bind_some_eq h
      refine V_callV (As := []) (rest := []) (s1 := [vI c107.1]) (o := 0) X (con_m_readPeople N g c107 hc107) gwX10_readPeople hdX10_readPeople (by decide) rfl (by decide) rfl rfl rfl (Nat.le_of_ble_eq_true rfl) ⟨Nat.zero_le _, Nat.zero_le _⟩ dX10_plan_107 rfl rfl ?_
      refine V_istore X dX10_plan_110 (by decide) (L' := [(6, vI c107.1), (0, .ref (xb x + 0)), (2, vI l2), (3, vI l3), (5, vI l5)]) rfl ?_
      refine V_aload_n X dX10_plan_112 1 rfl ?_
      refine V_bipush X dX10_plan_113 (by decide) ?_
      obtain ⟨c115, hc115, h⟩ := bind_some_eq h
      refine V_callV (As := [vI 59]) (rest := []) (s1 := []) (o := 0) X (con_m_sign N c107.2 59 c115 hc115) gwX10_sign hdX10_sign (by decide) rfl (by decide) rfl rfl rfl (Nat.le_of_ble_eq_true rfl) ⟨Nat.zero_le _, Nat.zero_le _⟩ dX10_plan_115 rfl rfl ?_
      refine V_aload_n X dX10_plan_118 1 rfl ?_
      obtain ⟨c119, hc119, h⟩ := bind_some_eq h
      refine V_callV (As := []) (rest := []) (s1 := [vI c119]) (o := 0) X (con_m_fine c115 c119 hc119) gwX10_fine hdX10_fine (by decide) rfl (by decide) rfl rfl rfl (Nat.le_of_ble_eq_true rfl) ⟨Nat.zero_le _, Nat.zero_le _⟩ dX10_plan_119 rfl rfl ?_
      refine V_if_ne (tgt := 128) X dX10_plan_122 (by decide) h (fun h => ?_) (fun h => ?_)
      · refine V_iload_n X dX10_plan_128 3 rfl ?_
        refine V_iconst X dX10_plan_129 ?_
        refine V_iload X dX10_plan_130 4 rfl ?_
        refine V_ishl X dX10_plan_132 ?_
        refine V_ior X dX10_plan_133 ?_
        refine V_istore_n X dX10_plan_134 (by decide) (L' := [(3, vI (i_or l3 (i_shl 1 l5))), (6, vI c107.1), (0, .ref (xb x + 0)), (2, vI l2), (5, vI l5)]) rfl ?_
        refine V_aload_n X dX10_plan_135 2 rfl ?_
        refine getX10 X (o := 0) (j := 45) rfl (by decide) q1593 (fv_1 (i := 25) rfl rfl) dX10_plan_136 ?_
        refine V_iconst X dX10_plan_139 ?_
        refine V_iload_n X dX10_plan_140 3 rfl ?_
        refine V_imul X dX10_plan_141 ?_
        refine V_iload X dX10_plan_142 4 rfl ?_
        refine V_iast X (o := 25) (n := 24) rfl (by decide) dX10_plan_144 h (fun g144 h => ?_)
        refine V_aload_n X dX10_plan_145 2 rfl ?_
        refine getX10 X (o := 0) (j := 45) rfl (by decide) q1593 (fv_1 (i := 25) rfl rfl) dX10_plan_146 ?_
        refine V_iconst X dX10_plan_149 ?_
        refine V_iload_n X dX10_plan_150 3 rfl ?_
        refine V_imul X dX10_plan_151 ?_
        refine V_iconst X dX10_plan_152 ?_
        refine V_iadd X dX10_plan_153 ?_
        refine V_iload X dX10_plan_154 1 rfl ?_
        refine V_iast X (o := 25) (n := 24) rfl (by decide) dX10_plan_156 h (fun g156 h => ?_)
        refine V_iinc X dX10_plan_157 3 rfl (by decide) (L' := [(2, vI (l2 + 1)), (3, vI (i_or l3 (i_shl 1 l5))), (6, vI c107.1), (0, .ref (xb x + 0)), (5, vI l5)]) rfl ?_
        refine V_goto (tgt := 49) X dX10_plan_160 (by decide) ?_
        exact V_sub [3, 0, 1] rfl (hc49 _ (Option.some.inj h).symm)
      · refine V_goto (tgt := 163) X dX10_plan_125 (by decide) ?_
        exact V_sub [1, 2] rfl (he49 _ (Option.some.inj h).symm)
    unfold m_plan_b49 at h
    show V x 7 Km 0 0 sz g 49 [(0, .ref (xb x + 0)), (2, vI l2), (3, vI l3)] []
    refine V_aload_n X dX10_plan_49 0 rfl ?_
    obtain ⟨c50, hc50, h⟩ := bind_some_eq h
    refine V_callV (As := []) (rest := []) (s1 := [vI c50]) (o := 0) X (con_m_fine g c50 hc50) gwX10_fine hdX10_fine (by decide) rfl (by decide) rfl rfl rfl (Nat.le_of_ble_eq_true rfl) ⟨Nat.zero_le _, Nat.zero_le _⟩ dX10_plan_50 rfl rfl ?_
    refine V_if_eq (tgt := 163) X dX10_plan_53 (by decide) h (fun h => ?_) (fun h => ?_)
    · exact V_sub [0, 1] rfl (he49 _ (Option.some.inj h).symm)
    · refine V_aload_n X dX10_plan_56 0 rfl ?_
      obtain ⟨c57, hc57, h⟩ := bind_some_eq h
      refine V_callV (As := []) (rest := []) (s1 := [vI c57.1]) (o := 0) X (con_m_isMore N g c57 hc57) gwX10_isMore hdX10_isMore (by decide) rfl (by decide) rfl rfl rfl (Nat.le_of_ble_eq_true rfl) ⟨Nat.zero_le _, Nat.zero_le _⟩ dX10_plan_57 rfl rfl ?_
      refine V_if_eq (tgt := 163) X dX10_plan_60 (by decide) h (fun h => ?_) (fun h => ?_)
      · exact V_sub [0, 1] rfl (he49 _ (Option.some.inj h).symm)
      · refine V_aload_n X dX10_plan_63 0 rfl ?_
        refine getX10 X (o := 0) (j := 4) rfl (by decide) q1552 (fv_0 rfl) dX10_plan_64 ?_
        refine V_istore X dX10_plan_67 (by decide) (L' := [(4, vI (gI c57.2 904 0)), (0, .ref (xb x + 0)), (2, vI l2), (3, vI l3)]) rfl ?_
        refine V_aload_n X dX10_plan_69 1 rfl ?_
        refine V_iconst X dX10_plan_70 ?_
        refine V_aload_n X dX10_plan_71 1 rfl ?_
        refine getX10 X (o := 0) (j := 33) rfl (by decide) q1581 (fv_0 rfl) dX10_plan_72 ?_
        refine V_iconst X dX10_plan_75 ?_
        refine V_isub X dX10_plan_76 ?_
        obtain ⟨c77, hc77, h⟩ := bind_some_eq h
        refine V_callV (As := [vI 0, vI ((gI c57.2 933 0) - 1)]) (rest := []) (s1 := [vI c77.1]) (o := 0) X (con_m_readNumber N c57.2 0 ((gI c57.2 933 0) - 1) c77 hc77) gwX10_readNumber hdX10_readNumber (by decide) rfl (by decide) rfl rfl rfl (Nat.le_of_ble_eq_true rfl) ⟨Nat.zero_le _, Nat.zero_le _⟩ dX10_plan_77 rfl rfl ?_
        refine V_istore X dX10_plan_80 (by decide) (L' := [(5, vI c77.1), (4, vI (gI c57.2 904 0)), (0, .ref (xb x + 0)), (2, vI l2), (3, vI l3)]) rfl ?_
        refine V_aload_n X dX10_plan_82 2 rfl ?_
        obtain ⟨c83, hc83, h⟩ := bind_some_eq h
        refine V_callV (As := []) (rest := []) (s1 := [vI c83]) (o := 0) X (con_m_fine c77.2 c83 hc83) gwX10_fine hdX10_fine (by decide) rfl (by decide) rfl rfl rfl (Nat.le_of_ble_eq_true rfl) ⟨Nat.zero_le _, Nat.zero_le _⟩ dX10_plan_83 rfl rfl ?_
        refine V_if_eq (tgt := 106) X dX10_plan_86 (by decide) h (fun h => ?_) (fun h => ?_)
        · exact V_sub [2, 3, 4, 0] rfl (J106 _ _ _ _ h)
        · refine V_iload_n X dX10_plan_89 4 rfl ?_
          refine V_iload X dX10_plan_90 0 rfl ?_
          refine V_ishr X dX10_plan_92 ?_
          refine V_iconst X dX10_plan_93 ?_
          refine V_iand X dX10_plan_94 ?_
          refine V_iconst X dX10_plan_95 ?_
          refine V_icmp_ne (tgt := 106) X dX10_plan_96 (by decide) h (fun h => ?_) (fun h => ?_)
          · exact V_sub [2, 3, 4, 0] rfl (J106 _ _ _ _ h)
          · refine V_aload_n X dX10_plan_99 2 rfl ?_
            refine V_iconst X dX10_plan_100 ?_
            refine V_iload X dX10_plan_101 1 rfl ?_
            obtain ⟨c103, hc103, h⟩ := bind_some_eq h
            refine V_callV (As := [vI 2, vI (gI c57.2 904 0)]) (rest := []) (s1 := []) (o := 0) X (con_m_wrong c77.2 2 (gI c57.2 904 0) c103 hc103) gwX10_wrong hdX10_wrong (by decide) rfl (by decide) rfl rfl rfl (Nat.le_of_ble_eq_true rfl) ⟨Nat.zero_le _, Nat.zero_le _⟩ dX10_plan_103 rfl rfl ?_
            exact V_sub [2, 3, 4, 0] rfl (J106 _ _ _ _ h)
  have J30 : ∀ (g : GS) (l1 : Int) (s0 : Int), m_plan_j30 N g l1 s0 = some r → V x 7 Km 0 0 sz g 30 [(0, .ref (xb x + 0)), (1, vI l1)] [vI s0, .ref (xb x + 0)] := by
    intro g l1 s0 h
    unfold m_plan_j30 at h
    refine V_iconst X dX10_plan_30 ?_
    refine V_iconst X dX10_plan_31 ?_
    obtain ⟨c32, hc32, h⟩ := bind_some_eq h
    refine V_callV (As := [vI s0, vI 1, vI 1]) (rest := []) (s1 := [vI c32.1]) (o := 0) X (con_m_may g s0 1 1 c32 hc32) gwX10_may hdX10_may (by decide) rfl (by decide) rfl rfl rfl (Nat.le_of_ble_eq_true rfl) ⟨Nat.zero_le _, Nat.zero_le _⟩ dX10_plan_32 rfl rfl ?_
    refine V_if_ne (tgt := 40) X dX10_plan_35 (by decide) h (fun h => ?_) (fun h => ?_)
    · refine V_aload_n X dX10_plan_40 0 rfl ?_
      refine V_iload_n X dX10_plan_41 1 rfl ?_
      obtain ⟨c42, hc42, h⟩ := bind_some_eq h
      refine V_callV (As := [vI l1]) (rest := []) (s1 := []) (o := 0) X (con_m_begins c32.2 l1 c42 hc42) gwX10_begins hdX10_begins (by decide) rfl (by decide) rfl rfl rfl (Nat.le_of_ble_eq_true rfl) ⟨Nat.zero_le _, Nat.zero_le _⟩ dX10_plan_42 rfl rfl ?_
      refine V_iconst X dX10_plan_45 ?_
      refine V_istore_n X dX10_plan_46 (by decide) (L' := [(2, vI 0), (0, .ref (xb x + 0)), (1, vI l1)]) rfl ?_
      refine V_iconst X dX10_plan_47 ?_
      refine V_istore_n X dX10_plan_48 (by decide) (L' := [(3, vI 0), (2, vI 0), (0, .ref (xb x + 0)), (1, vI l1)]) rfl ?_
      obtain ⟨t1, t1q, h⟩ := bind_some_eq h
      refine V_sub [2, 1, 0] rfl (LL49 N (c42, 0, 0) _ t1q ?_)
      exact V_sub [0, 1] rfl (J163 _ _ h)
    · refine V_iconst X dX10_plan_38 ?_
      have hr := Option.some.inj h
      subst hr
      exact V_end_i hX rfl dX10_plan_39
  have J29 : ∀ (g : GS) (l1 : Int), m_plan_j29 N g l1 = some r → V x 7 Km 0 0 sz g 29 [(0, .ref (xb x + 0)), (1, vI l1)] [.ref (xb x + 0)] := by
    intro g l1 h
    unfold m_plan_j29 at h
    refine V_iconst X dX10_plan_29 ?_
    exact V_sub [0, 1] rfl (J30 _ _ _ h)
  unfold m_plan at h
  show V x 7 Km 0 0 sz g 0 [(0, .ref (xb x + 0)), (1, vI l1)] []
  refine V_aload_n X dX10_plan_0 0 rfl ?_
  refine V_iconst X dX10_plan_1 ?_
  refine putX10 X (o := 0) (j := 0) (a := 0) rfl (by decide) rfl rfl rfl q1548 dX10_plan_2 ?_
  refine V_aload_n X dX10_plan_5 0 rfl ?_
  refine V_iload_n X dX10_plan_6 1 rfl ?_
  refine V_if_lt (tgt := 29) X dX10_plan_7 (by decide) h (fun h => ?_) (fun h => ?_)
  · exact V_sub [0, 1] rfl (J29 _ _ h)
  · refine V_iload_n X dX10_plan_10 1 rfl ?_
    refine V_aload_n X dX10_plan_11 0 rfl ?_
    refine getX10 X (o := 0) (j := 2) rfl (by decide) q1550 (fv_0 rfl) dX10_plan_12 ?_
    refine V_icmp_gt (tgt := 29) X dX10_plan_15 (by decide) h (fun h => ?_) (fun h => ?_)
    · exact V_sub [0, 1] rfl (J29 _ _ h)
    · refine V_iload_n X dX10_plan_18 1 rfl ?_
      refine V_sipush X dX10_plan_19 (by decide) ?_
      refine V_icmp_gt (tgt := 29) X dX10_plan_22 (by decide) h (fun h => ?_) (fun h => ?_)
      · exact V_sub [0, 1] rfl (J29 _ _ h)
      · refine V_iconst X dX10_plan_25 ?_
        refine V_goto (tgt := 30) X dX10_plan_26 (by decide) ?_
        exact V_sub [0, 1] rfl (J30 _ _ _ h)
set_option maxHeartbeats 4000000 in
theorem con_m_book (N : Nat) (g : GS) (l1 : Int) (r : (Int × GS)) (h : m_book N g l1 = some r) : Con yX10_book cX10_book 6 (some .int) 3 59 Km (fun b => [.ref (b + 0), vI l1]) g (fun _ => some (vI r.1)) r.2 := by
  refine Con.of RX10 (by decide) rfl (fun b => Nat.le_of_ble_eq_true rfl) (fun x sz hX => ?_)
  have X := hX.1
  have J156 : ∀ (g : GS) (l2 : Int), m_book_j156 N g l2 = some r → V x 6 Km 0 0 sz g 156 [(0, .ref (xb x + 0)), (2, vI l2)] [] := by
    intro g l2 h
    unfold m_book_j156 at h
    refine V_aload_n X dX10_book_156 0 rfl ?_
    refine V_iload_n X dX10_book_157 1 rfl ?_
    obtain ⟨c158, hc158, h⟩ := bind_some_eq h
    refine V_callV (As := [vI l2]) (rest := []) (s1 := [vI c158.1]) (o := 0) X (con_m_result g l2 c158 hc158) gwX10_result hdX10_result (by decide) rfl (by decide) rfl rfl rfl (Nat.le_of_ble_eq_true rfl) ⟨Nat.zero_le _, Nat.zero_le _⟩ dX10_book_158 rfl rfl ?_
    refine V_istore_n X dX10_book_161 (by decide) (L' := [(3, vI c158.1), (0, .ref (xb x + 0)), (2, vI l2)]) rfl ?_
    refine V_aload_n X dX10_book_162 1 rfl ?_
    refine getX10 X (o := 0) (j := 5) rfl (by decide) q1553 (fv_0 rfl) dX10_book_163 ?_
    refine V_iconst X dX10_book_166 ?_
    refine V_icmp_eq (tgt := 172) X dX10_book_167 (by decide) h (fun h => ?_) (fun h => ?_)
    · refine V_aload_n X dX10_book_172 1 rfl ?_
      refine V_iload_n X dX10_book_173 2 rfl ?_
      refine putX10 X (o := 0) (j := 50) (a := l2) rfl (by decide) rfl rfl rfl q1598 dX10_book_174 ?_
      refine V_aload_n X dX10_book_177 1 rfl ?_
      refine V_aload_n X dX10_book_178 1 rfl ?_
      refine getX10 X (o := 0) (j := 47) rfl (by decide) q1595 (fv_1 (i := 27) rfl rfl) dX10_book_179 ?_
      refine V_aload_n X dX10_book_182 1 rfl ?_
      refine getX10 X (o := 0) (j := 48) rfl (by decide) q1596 (fv_1 (i := 28) rfl rfl) dX10_book_183 ?_
      refine V_iconst X dX10_book_186 ?_
      obtain ⟨c187, hc187, h⟩ := bind_some_eq h
      refine V_callV (As := [.ref (xb x + 27), .ref (xb x + 28), vI 3]) (rest := []) (s1 := []) (o := 0) X (con_m_copies N 27 3 28 3 ⟨rfl, (by decide)⟩ ⟨rfl, (by decide)⟩ (sI c158.2 950 0 l2) 3 c187 hc187) gwX10_copies hdX10_copies (by decide) rfl (by decide) rfl rfl rfl (Nat.le_of_ble_eq_true rfl) ⟨Nat.zero_le _, Nat.zero_le _⟩ dX10_book_187 rfl rfl ?_
      refine V_iload_n X dX10_book_190 0 rfl ?_
      have hr := Option.some.inj h
      subst hr
      exact V_end_i hX rfl dX10_book_191
    · refine V_iload_n X dX10_book_170 0 rfl ?_
      have hr := Option.some.inj h
      subst hr
      exact V_end_i hX rfl dX10_book_171
  have LL66 : ∀  (n : Nat) (s : (GS × Int)) (e : (GS × Int)), loopN (fun s => m_book_b66 N s.1 s.2) n s = some e → V x 6 Km 0 0 sz e.1 156 [(0, .ref (xb x + 0)), (2, vI e.2)] [] → V x 6 Km 0 0 sz s.1 66 [(0, .ref (xb x + 0)), (2, vI s.2)] [] := by
    intro  n s e
    refine loop_walk (P := fun s => V x 6 Km 0 0 sz s.1 66 [(0, .ref (xb x + 0)), (2, vI s.2)] []) (E := fun e => V x 6 Km 0 0 sz e.1 156 [(0, .ref (xb x + 0)), (2, vI e.2)] []) ?_ n s e
    clear e s n
    rintro ⟨g, l2⟩ q66 h hc66 he66
    replace h : m_book_b66 N g l2 = some q66 := h
    have J117 : ∀ (g : GS) (l2 : Int) (l4 : Int), m_book_j117 N g l2 l4 = some q66 → V x 6 Km 0 0 sz g 117 [(0, .ref (xb x + 0)), (2, vI l2), (4, vI l4)] [] := by
      intro g l2 l4 h
      unfold m_book_j117 at h
      refine V_aload_n X dX10_book_117 0 rfl ?_
      refine V_iconst X dX10_book_118 ?_
      refine V_iconst X dX10_book_119 ?_
      obtain ⟨c120, hc120, h⟩ := bind_some_eq h
      refine V_callV (As := [vI 0, vI 1]) (rest := []) (s1 := [vI c120.1]) (o := 0) X (con_m_readNumber N g 0 1 c120 hc120) gwX10_readNumber hdX10_readNumber (by decide) rfl (by decide) rfl rfl rfl (Nat.le_of_ble_eq_true rfl) ⟨Nat.zero_le _, Nat.zero_le _⟩ dX10_book_120 rfl rfl ?_
      refine V_istore X dX10_book_123 (by decide) (L' := [(5, vI c120.1), (0, .ref (xb x + 0)), (2, vI l2), (4, vI l4)]) rfl ?_
      refine V_aload_n X dX10_book_125 1 rfl ?_
      refine V_bipush X dX10_book_126 (by decide) ?_
      obtain ⟨c128, hc128, h⟩ := bind_some_eq h
      refine V_callV (As := [vI 59]) (rest := []) (s1 := []) (o := 0) X (con_m_sign N c120.2 59 c128 hc128) gwX10_sign hdX10_sign (by decide) rfl (by decide) rfl rfl rfl (Nat.le_of_ble_eq_true rfl) ⟨Nat.zero_le _, Nat.zero_le _⟩ dX10_book_128 rfl rfl ?_
      refine V_aload_n X dX10_book_131 1 rfl ?_
      obtain ⟨c132, hc132, h⟩ := bind_some_eq h
      refine V_callV (As := []) (rest := []) (s1 := [vI c132]) (o := 0) X (con_m_fine c128 c132 hc132) gwX10_fine hdX10_fine (by decide) rfl (by decide) rfl rfl rfl (Nat.le_of_ble_eq_true rfl) ⟨Nat.zero_le _, Nat.zero_le _⟩ dX10_book_132 rfl rfl ?_
      refine V_if_ne (tgt := 141) X dX10_book_135 (by decide) h (fun h => ?_) (fun h => ?_)
      · refine V_aload_n X dX10_book_141 1 rfl ?_
        refine getX10 X (o := 0) (j := 47) rfl (by decide) q1595 (fv_1 (i := 27) rfl rfl) dX10_book_142 ?_
        refine V_iload X dX10_book_145 3 rfl ?_
        refine V_iload X dX10_book_147 0 rfl ?_
        refine V_iast X (o := 27) (n := 3) rfl (by decide) dX10_book_149 h (fun g149 h => ?_)
        refine V_iinc X dX10_book_150 2 rfl (by decide) (L' := [(2, vI (l2 + 1)), (5, vI c120.1), (0, .ref (xb x + 0)), (4, vI l4)]) rfl ?_
        refine V_goto (tgt := 66) X dX10_book_153 (by decide) ?_
        exact V_sub [2, 0] rfl (hc66 _ (Option.some.inj h).symm)
      · refine V_goto (tgt := 156) X dX10_book_138 (by decide) ?_
        exact V_sub [1, 2] rfl (he66 _ (Option.some.inj h).symm)
    unfold m_book_b66 at h
    show V x 6 Km 0 0 sz g 66 [(0, .ref (xb x + 0)), (2, vI l2)] []
    refine V_aload_n X dX10_book_66 0 rfl ?_
    obtain ⟨c67, hc67, h⟩ := bind_some_eq h
    refine V_callV (As := []) (rest := []) (s1 := [vI c67]) (o := 0) X (con_m_fine g c67 hc67) gwX10_fine hdX10_fine (by decide) rfl (by decide) rfl rfl rfl (Nat.le_of_ble_eq_true rfl) ⟨Nat.zero_le _, Nat.zero_le _⟩ dX10_book_67 rfl rfl ?_
    refine V_if_eq (tgt := 156) X dX10_book_70 (by decide) h (fun h => ?_) (fun h => ?_)
    · exact V_sub [0, 1] rfl (he66 _ (Option.some.inj h).symm)
    · refine V_aload_n X dX10_book_73 0 rfl ?_
      obtain ⟨c74, hc74, h⟩ := bind_some_eq h
      refine V_callV (As := []) (rest := []) (s1 := [vI c74.1]) (o := 0) X (con_m_isMore N g c74 hc74) gwX10_isMore hdX10_isMore (by decide) rfl (by decide) rfl rfl rfl (Nat.le_of_ble_eq_true rfl) ⟨Nat.zero_le _, Nat.zero_le _⟩ dX10_book_74 rfl rfl ?_
      refine V_if_eq (tgt := 156) X dX10_book_77 (by decide) h (fun h => ?_) (fun h => ?_)
      · exact V_sub [0, 1] rfl (he66 _ (Option.some.inj h).symm)
      · refine V_aload_n X dX10_book_80 0 rfl ?_
        refine getX10 X (o := 0) (j := 4) rfl (by decide) q1552 (fv_0 rfl) dX10_book_81 ?_
        refine V_istore_n X dX10_book_84 (by decide) (L' := [(3, vI (gI c74.2 904 0)), (0, .ref (xb x + 0)), (2, vI l2)]) rfl ?_
        refine V_aload_n X dX10_book_85 1 rfl ?_
        refine V_iconst X dX10_book_86 ?_
        refine V_iconst X dX10_book_87 ?_
        obtain ⟨c88, hc88, h⟩ := bind_some_eq h
        refine V_callV (As := [vI 0, vI 2]) (rest := []) (s1 := [vI c88.1]) (o := 0) X (con_m_readNumber N c74.2 0 2 c88 hc88) gwX10_readNumber hdX10_readNumber (by decide) rfl (by decide) rfl rfl rfl (Nat.le_of_ble_eq_true rfl) ⟨Nat.zero_le _, Nat.zero_le _⟩ dX10_book_88 rfl rfl ?_
        refine V_istore X dX10_book_91 (by decide) (L' := [(4, vI c88.1), (3, vI (gI c74.2 904 0)), (0, .ref (xb x + 0)), (2, vI l2)]) rfl ?_
        refine V_aload_n X dX10_book_93 2 rfl ?_
        obtain ⟨c94, hc94, h⟩ := bind_some_eq h
        refine V_callV (As := []) (rest := []) (s1 := [vI c94]) (o := 0) X (con_m_fine c88.2 c94 hc94) gwX10_fine hdX10_fine (by decide) rfl (by decide) rfl rfl rfl (Nat.le_of_ble_eq_true rfl) ⟨Nat.zero_le _, Nat.zero_le _⟩ dX10_book_94 rfl rfl ?_
        refine V_if_eq (tgt := 117) X dX10_book_97 (by decide) h (fun h => ?_) (fun h => ?_)
        · exact V_sub [2, 3, 0] rfl (J117 _ _ _ h)
        · refine V_aload_n X dX10_book_100 2 rfl ?_
          refine getX10 X (o := 0) (j := 47) rfl (by decide) q1595 (fv_1 (i := 27) rfl rfl) dX10_book_101 ?_
          refine V_iload X dX10_book_104 0 rfl ?_
          refine V_iald X (o := 27) (n := 3) rfl (by decide) dX10_book_106 h (fun v106 h => ?_)
          refine V_iconst X dX10_book_107 ?_
          refine V_icmp_eq (tgt := 117) X dX10_book_108 (by decide) h (fun h => ?_) (fun h => ?_)
          · exact V_sub [2, 3, 0] rfl (J117 _ _ _ h)
          · refine V_aload_n X dX10_book_111 2 rfl ?_
            refine V_iconst X dX10_book_112 ?_
            refine V_iload_n X dX10_book_113 1 rfl ?_
            obtain ⟨c114, hc114, h⟩ := bind_some_eq h
            refine V_callV (As := [vI 2, vI (gI c74.2 904 0)]) (rest := []) (s1 := []) (o := 0) X (con_m_wrong c88.2 2 (gI c74.2 904 0) c114 hc114) gwX10_wrong hdX10_wrong (by decide) rfl (by decide) rfl rfl rfl (Nat.le_of_ble_eq_true rfl) ⟨Nat.zero_le _, Nat.zero_le _⟩ dX10_book_114 rfl rfl ?_
            exact V_sub [2, 3, 0] rfl (J117 _ _ _ h)
  have LL46 : ∀  (n : Nat) (s : (GS × Int)) (e : (GS)), loopN (fun s => m_book_b46 N s.1 s.2) n s = some e → V x 6 Km 0 0 sz e 64 [(0, .ref (xb x + 0))] [] → V x 6 Km 0 0 sz s.1 46 [(0, .ref (xb x + 0)), (2, vI s.2)] [] := by
    intro  n s e
    refine loop_walk (P := fun s => V x 6 Km 0 0 sz s.1 46 [(0, .ref (xb x + 0)), (2, vI s.2)] []) (E := fun e => V x 6 Km 0 0 sz e 64 [(0, .ref (xb x + 0))] []) ?_ n s e
    clear e s n
    rintro ⟨g, l2⟩ q46 h hc46 he46
    replace h : m_book_b46 N g l2 = some q46 := h
    unfold m_book_b46 at h
    show V x 6 Km 0 0 sz g 46 [(0, .ref (xb x + 0)), (2, vI l2)] []
    refine V_iload_n X dX10_book_46 1 rfl ?_
    refine V_iconst X dX10_book_47 ?_
    refine V_icmp_ge (tgt := 64) X dX10_book_48 (by decide) h (fun h => ?_) (fun h => ?_)
    · exact V_sub [0] rfl (he46 _ (Option.some.inj h).symm)
    · refine V_aload_n X dX10_book_51 0 rfl ?_
      refine getX10 X (o := 0) (j := 47) rfl (by decide) q1595 (fv_1 (i := 27) rfl rfl) dX10_book_52 ?_
      refine V_iload_n X dX10_book_55 1 rfl ?_
      refine V_iconst X dX10_book_56 ?_
      refine V_iast X (o := 27) (n := 3) rfl (by decide) dX10_book_57 h (fun g57 h => ?_)
      refine V_iinc X dX10_book_58 1 rfl (by decide) (L' := [(2, vI (l2 + 1)), (0, .ref (xb x + 0))]) rfl ?_
      refine V_goto (tgt := 46) X dX10_book_61 (by decide) ?_
      exact V_sub [1, 0] rfl (hc46 _ (Option.some.inj h).symm)
  have J29 : ∀ (g : GS) (l1 : Int) (s0 : Int), m_book_j29 N g l1 s0 = some r → V x 6 Km 0 0 sz g 29 [(0, .ref (xb x + 0)), (1, vI l1)] [vI s0, .ref (xb x + 0)] := by
    intro g l1 s0 h
    unfold m_book_j29 at h
    refine V_iconst X dX10_book_29 ?_
    refine V_iconst X dX10_book_30 ?_
    obtain ⟨c31, hc31, h⟩ := bind_some_eq h
    refine V_callV (As := [vI s0, vI 1, vI 1]) (rest := []) (s1 := [vI c31.1]) (o := 0) X (con_m_may g s0 1 1 c31 hc31) gwX10_may hdX10_may (by decide) rfl (by decide) rfl rfl rfl (Nat.le_of_ble_eq_true rfl) ⟨Nat.zero_le _, Nat.zero_le _⟩ dX10_book_31 rfl rfl ?_
    refine V_if_ne (tgt := 39) X dX10_book_34 (by decide) h (fun h => ?_) (fun h => ?_)
    · refine V_aload_n X dX10_book_39 0 rfl ?_
      refine V_iload_n X dX10_book_40 1 rfl ?_
      obtain ⟨c41, hc41, h⟩ := bind_some_eq h
      refine V_callV (As := [vI l1]) (rest := []) (s1 := []) (o := 0) X (con_m_begins c31.2 l1 c41 hc41) gwX10_begins hdX10_begins (by decide) rfl (by decide) rfl rfl rfl (Nat.le_of_ble_eq_true rfl) ⟨Nat.zero_le _, Nat.zero_le _⟩ dX10_book_41 rfl rfl ?_
      refine V_iconst X dX10_book_44 ?_
      refine V_istore_n X dX10_book_45 (by decide) (L' := [(2, vI 0), (0, .ref (xb x + 0)), (1, vI l1)]) rfl ?_
      obtain ⟨t1, t1q, h⟩ := bind_some_eq h
      refine V_sub [1, 0] rfl (LL46 N (c41, 0) _ t1q ?_)
      refine V_iconst X dX10_book_64 ?_
      refine V_istore_n X dX10_book_65 (by decide) (L' := [(2, vI 0), (0, .ref (xb x + 0))]) rfl ?_
      obtain ⟨t2, t2q, h⟩ := bind_some_eq h
      refine V_sub [1, 0] rfl (LL66 N (t1, 0) _ t2q ?_)
      exact V_sub [0, 1] rfl (J156 _ _ h)
    · refine V_iconst X dX10_book_37 ?_
      have hr := Option.some.inj h
      subst hr
      exact V_end_i hX rfl dX10_book_38
  have J28 : ∀ (g : GS) (l1 : Int), m_book_j28 N g l1 = some r → V x 6 Km 0 0 sz g 28 [(0, .ref (xb x + 0)), (1, vI l1)] [.ref (xb x + 0)] := by
    intro g l1 h
    unfold m_book_j28 at h
    refine V_iconst X dX10_book_28 ?_
    exact V_sub [0, 1] rfl (J29 _ _ _ h)
  unfold m_book at h
  show V x 6 Km 0 0 sz g 0 [(0, .ref (xb x + 0)), (1, vI l1)] []
  refine V_aload_n X dX10_book_0 0 rfl ?_
  refine V_iconst X dX10_book_1 ?_
  refine putX10 X (o := 0) (j := 0) (a := 0) rfl (by decide) rfl rfl rfl q1548 dX10_book_2 ?_
  refine V_aload_n X dX10_book_5 0 rfl ?_
  refine V_iload_n X dX10_book_6 1 rfl ?_
  refine V_if_lt (tgt := 28) X dX10_book_7 (by decide) h (fun h => ?_) (fun h => ?_)
  · exact V_sub [0, 1] rfl (J28 _ _ h)
  · refine V_iload_n X dX10_book_10 1 rfl ?_
    refine V_aload_n X dX10_book_11 0 rfl ?_
    refine getX10 X (o := 0) (j := 2) rfl (by decide) q1550 (fv_0 rfl) dX10_book_12 ?_
    refine V_icmp_gt (tgt := 28) X dX10_book_15 (by decide) h (fun h => ?_) (fun h => ?_)
    · exact V_sub [0, 1] rfl (J28 _ _ h)
    · refine V_iload_n X dX10_book_18 1 rfl ?_
      refine V_bipush X dX10_book_19 (by decide) ?_
      refine V_icmp_gt (tgt := 28) X dX10_book_21 (by decide) h (fun h => ?_) (fun h => ?_)
      · exact V_sub [0, 1] rfl (J28 _ _ h)
      · refine V_iconst X dX10_book_24 ?_
        refine V_goto (tgt := 29) X dX10_book_25 (by decide) ?_
        exact V_sub [0, 1] rfl (J29 _ _ _ h)
set_option maxHeartbeats 4000000 in
theorem con_m_told (g : GS) (l1 : Int) (r : (Int × GS)) (h : m_told g l1 = some r) : Con yX10_told cX10_told 2 (some .int) 2 35 Km (fun b => [.ref (b + 0), vI l1]) g (fun _ => some (vI r.1)) r.2 := by
  refine Con.of RX10 (by decide) rfl (fun b => Nat.le_of_ble_eq_true rfl) (fun x sz hX => ?_)
  have X := hX.1
  unfold m_told at h
  show V x 2 Km 0 0 sz g 0 [(0, .ref (xb x + 0)), (1, vI l1)] []
  refine V_aload_n X dX10_told_0 0 rfl ?_
  refine V_iconst X dX10_told_1 ?_
  refine putX10 X (o := 0) (j := 0) (a := 0) rfl (by decide) rfl rfl rfl q1548 dX10_told_2 ?_
  refine V_aload_n X dX10_told_5 0 rfl ?_
  refine V_iload_n X dX10_told_6 1 rfl ?_
  refine V_iconst X dX10_told_7 ?_
  refine V_bipush X dX10_told_8 (by decide) ?_
  obtain ⟨c10, hc10, h⟩ := bind_some_eq h
  refine V_callS (As := [vI l1, vI 0, vI 8]) (rest := [.ref (xb x + 0)]) (s1 := [vI c10, .ref (xb x + 0)]) X (con_m_within (sI g 900 0 0) l1 0 8 c10 hc10) gwX10_within hdX10_within (by decide) rfl rfl (Nat.le_of_ble_eq_true rfl) ⟨Nat.zero_le _, Nat.zero_le _⟩ dX10_told_10 rfl rfl ?_
  refine V_iconst X dX10_told_13 ?_
  refine V_iconst X dX10_told_14 ?_
  obtain ⟨c15, hc15, h⟩ := bind_some_eq h
  refine V_callV (As := [vI c10, vI 1, vI 1]) (rest := []) (s1 := [vI c15.1]) (o := 0) X (con_m_may (sI g 900 0 0) c10 1 1 c15 hc15) gwX10_may hdX10_may (by decide) rfl (by decide) rfl rfl rfl (Nat.le_of_ble_eq_true rfl) ⟨Nat.zero_le _, Nat.zero_le _⟩ dX10_told_15 rfl rfl ?_
  refine V_if_ne (tgt := 23) X dX10_told_18 (by decide) h (fun h => ?_) (fun h => ?_)
  · refine V_iload_n X dX10_told_23 1 rfl ?_
    refine V_iconst X dX10_told_24 ?_
    refine V_icmp_ge (tgt := 80) X dX10_told_25 (by decide) h (fun h => ?_) (fun h => ?_)
    · refine V_iload_n X dX10_told_80 1 rfl ?_
      refine V_iconst X dX10_told_81 ?_
      refine V_icmp_ne (tgt := 92) X dX10_told_82 (by decide) h (fun h => ?_) (fun h => ?_)
      · refine V_iload_n X dX10_told_92 1 rfl ?_
        refine V_bipush X dX10_told_93 (by decide) ?_
        refine V_icmp_ne (tgt := 105) X dX10_told_95 (by decide) h (fun h => ?_) (fun h => ?_)
        · refine V_iload_n X dX10_told_105 1 rfl ?_
          refine V_bipush X dX10_told_106 (by decide) ?_
          refine V_icmp_ne (tgt := 120) X dX10_told_108 (by decide) h (fun h => ?_) (fun h => ?_)
          · refine V_aload_n X dX10_told_120 0 rfl ?_
            refine getX10 X (o := 0) (j := 25) rfl (by decide) q1573 (fv_1 (i := 18) rfl rfl) dX10_told_121 ?_
            refine V_iconst X dX10_told_124 ?_
            refine V_iald X (o := 18) (n := 5) rfl (by decide) dX10_told_125 h (fun v125 h => ?_)
            have hr := Option.some.inj h
            subst hr
            exact V_end_i hX rfl dX10_told_126
          · refine V_aload_n X dX10_told_111 0 rfl ?_
            refine getX10 X (o := 0) (j := 25) rfl (by decide) q1573 (fv_1 (i := 18) rfl rfl) dX10_told_112 ?_
            refine V_iconst X dX10_told_115 ?_
            refine V_iald X (o := 18) (n := 5) rfl (by decide) dX10_told_116 h (fun v116 h => ?_)
            refine V_goto (tgt := 126) X dX10_told_117 (by decide) ?_
            have hr := Option.some.inj h
            subst hr
            exact V_end_i hX rfl dX10_told_126
        · refine V_aload_n X dX10_told_98 0 rfl ?_
          refine getX10 X (o := 0) (j := 50) rfl (by decide) q1598 (fv_0 rfl) dX10_told_99 ?_
          refine V_goto (tgt := 126) X dX10_told_102 (by decide) ?_
          have hr := Option.some.inj h
          subst hr
          exact V_end_i hX rfl dX10_told_126
      · refine V_aload_n X dX10_told_85 0 rfl ?_
        refine getX10 X (o := 0) (j := 49) rfl (by decide) q1597 (fv_0 rfl) dX10_told_86 ?_
        refine V_goto (tgt := 126) X dX10_told_89 (by decide) ?_
        have hr := Option.some.inj h
        subst hr
        exact V_end_i hX rfl dX10_told_126
    · refine V_iload_n X dX10_told_28 1 rfl ?_
      refine V_if_ne (tgt := 39) X dX10_told_29 (by decide) h (fun h => ?_) (fun h => ?_)
      · refine V_iload_n X dX10_told_39 1 rfl ?_
        refine V_iconst X dX10_told_40 ?_
        refine V_icmp_ne (tgt := 51) X dX10_told_41 (by decide) h (fun h => ?_) (fun h => ?_)
        · refine V_iload_n X dX10_told_51 1 rfl ?_
          refine V_iconst X dX10_told_52 ?_
          refine V_icmp_ne (tgt := 63) X dX10_told_53 (by decide) h (fun h => ?_) (fun h => ?_)
          · refine V_iload_n X dX10_told_63 1 rfl ?_
            refine V_iconst X dX10_told_64 ?_
            refine V_icmp_ne (tgt := 75) X dX10_told_65 (by decide) h (fun h => ?_) (fun h => ?_)
            · refine V_aload_n X dX10_told_75 0 rfl ?_
              refine getX10 X (o := 0) (j := 36) rfl (by decide) q1584 (fv_0 rfl) dX10_told_76 ?_
              have hr := Option.some.inj h
              subst hr
              exact V_end_i hX rfl dX10_told_79
            · refine V_aload_n X dX10_told_68 0 rfl ?_
              refine getX10 X (o := 0) (j := 35) rfl (by decide) q1583 (fv_0 rfl) dX10_told_69 ?_
              refine V_goto (tgt := 79) X dX10_told_72 (by decide) ?_
              have hr := Option.some.inj h
              subst hr
              exact V_end_i hX rfl dX10_told_79
          · refine V_aload_n X dX10_told_56 0 rfl ?_
            refine getX10 X (o := 0) (j := 34) rfl (by decide) q1582 (fv_0 rfl) dX10_told_57 ?_
            refine V_goto (tgt := 79) X dX10_told_60 (by decide) ?_
            have hr := Option.some.inj h
            subst hr
            exact V_end_i hX rfl dX10_told_79
        · refine V_aload_n X dX10_told_44 0 rfl ?_
          refine getX10 X (o := 0) (j := 33) rfl (by decide) q1581 (fv_0 rfl) dX10_told_45 ?_
          refine V_goto (tgt := 79) X dX10_told_48 (by decide) ?_
          have hr := Option.some.inj h
          subst hr
          exact V_end_i hX rfl dX10_told_79
      · refine V_aload_n X dX10_told_32 0 rfl ?_
        refine getX10 X (o := 0) (j := 32) rfl (by decide) q1580 (fv_0 rfl) dX10_told_33 ?_
        refine V_goto (tgt := 79) X dX10_told_36 (by decide) ?_
        have hr := Option.some.inj h
        subst hr
        exact V_end_i hX rfl dX10_told_79
  · refine V_iconst X dX10_told_21 ?_
    have hr := Option.some.inj h
    subst hr
    exact V_end_i hX rfl dX10_told_22
set_option maxHeartbeats 4000000 in
theorem con_m_isDeed (g : GS) (l1 : Int) (l2 : Int) (r : (Int × GS)) (h : m_isDeed g l1 l2 = some r) : Con yX10_isDeed cX10_isDeed 3 (some .boolean) 2 35 Km (fun b => [.ref (b + 0), vI l1, vI l2]) g (fun _ => some (vI r.1)) r.2 := by
  refine Con.of RX10 (by decide) rfl (fun b => Nat.le_of_ble_eq_true rfl) (fun x sz hX => ?_)
  have X := hX.1
  unfold m_isDeed at h
  show V x 3 Km 0 0 sz g 0 [(0, .ref (xb x + 0)), (1, vI l1), (2, vI l2)] []
  refine V_aload_n X dX10_isDeed_0 0 rfl ?_
  refine V_iload_n X dX10_isDeed_1 1 rfl ?_
  refine V_iconst X dX10_isDeed_2 ?_
  refine V_aload_n X dX10_isDeed_3 0 rfl ?_
  refine getX10 X (o := 0) (j := 33) rfl (by decide) q1581 (fv_0 rfl) dX10_isDeed_4 ?_
  refine V_iconst X dX10_isDeed_7 ?_
  refine V_isub X dX10_isDeed_8 ?_
  obtain ⟨c9, hc9, h⟩ := bind_some_eq h
  refine V_callS (As := [vI l1, vI 0, vI ((gI g 933 0) - 1)]) (rest := [.ref (xb x + 0)]) (s1 := [vI c9, .ref (xb x + 0)]) X (con_m_within g l1 0 ((gI g 933 0) - 1) c9 hc9) gwX10_within hdX10_within (by decide) rfl rfl (Nat.le_of_ble_eq_true rfl) ⟨Nat.zero_le _, Nat.zero_le _⟩ dX10_isDeed_9 rfl rfl ?_
  refine V_iload_n X dX10_isDeed_12 2 rfl ?_
  refine V_iconst X dX10_isDeed_13 ?_
  obtain ⟨c14, hc14, h⟩ := bind_some_eq h
  refine V_callV (As := [vI c9, vI l2, vI 0]) (rest := []) (s1 := [vI c14.1]) (o := 0) X (con_m_may g c9 l2 0 c14 hc14) gwX10_may hdX10_may (by decide) rfl (by decide) rfl rfl rfl (Nat.le_of_ble_eq_true rfl) ⟨Nat.zero_le _, Nat.zero_le _⟩ dX10_isDeed_14 rfl rfl ?_
  obtain ⟨h01, h⟩ := rtZ_some h
  have hr := Option.some.inj h
  subst hr
  exact V_end_z hX h01 rfl dX10_isDeed_17
set_option maxHeartbeats 4000000 in
theorem con_m_isPerson (g : GS) (l1 : Int) (l2 : Int) (r : (Int × GS)) (h : m_isPerson g l1 l2 = some r) : Con yX10_isPerson cX10_isPerson 3 (some .boolean) 2 35 Km (fun b => [.ref (b + 0), vI l1, vI l2]) g (fun _ => some (vI r.1)) r.2 := by
  refine Con.of RX10 (by decide) rfl (fun b => Nat.le_of_ble_eq_true rfl) (fun x sz hX => ?_)
  have X := hX.1
  unfold m_isPerson at h
  show V x 3 Km 0 0 sz g 0 [(0, .ref (xb x + 0)), (1, vI l1), (2, vI l2)] []
  refine V_aload_n X dX10_isPerson_0 0 rfl ?_
  refine V_iload_n X dX10_isPerson_1 1 rfl ?_
  refine V_iconst X dX10_isPerson_2 ?_
  refine V_aload_n X dX10_isPerson_3 0 rfl ?_
  refine getX10 X (o := 0) (j := 32) rfl (by decide) q1580 (fv_0 rfl) dX10_isPerson_4 ?_
  refine V_iconst X dX10_isPerson_7 ?_
  refine V_isub X dX10_isPerson_8 ?_
  obtain ⟨c9, hc9, h⟩ := bind_some_eq h
  refine V_callS (As := [vI l1, vI 0, vI ((gI g 932 0) - 1)]) (rest := [.ref (xb x + 0)]) (s1 := [vI c9, .ref (xb x + 0)]) X (con_m_within g l1 0 ((gI g 932 0) - 1) c9 hc9) gwX10_within hdX10_within (by decide) rfl rfl (Nat.le_of_ble_eq_true rfl) ⟨Nat.zero_le _, Nat.zero_le _⟩ dX10_isPerson_9 rfl rfl ?_
  refine V_iload_n X dX10_isPerson_12 2 rfl ?_
  refine V_iconst X dX10_isPerson_13 ?_
  obtain ⟨c14, hc14, h⟩ := bind_some_eq h
  refine V_callV (As := [vI c9, vI l2, vI 0]) (rest := []) (s1 := [vI c14.1]) (o := 0) X (con_m_may g c9 l2 0 c14 hc14) gwX10_may hdX10_may (by decide) rfl (by decide) rfl rfl rfl (Nat.le_of_ble_eq_true rfl) ⟨Nat.zero_le _, Nat.zero_le _⟩ dX10_isPerson_14 rfl rfl ?_
  obtain ⟨h01, h⟩ := rtZ_some h
  have hr := Option.some.inj h
  subst hr
  exact V_end_z hX h01 rfl dX10_isPerson_17
set_option maxHeartbeats 4000000 in
theorem con_m_isNut (g : GS) (l1 : Int) (l2 : Int) (r : (Int × GS)) (h : m_isNut g l1 l2 = some r) : Con yX10_isNut cX10_isNut 3 (some .boolean) 2 35 Km (fun b => [.ref (b + 0), vI l1, vI l2]) g (fun _ => some (vI r.1)) r.2 := by
  refine Con.of RX10 (by decide) rfl (fun b => Nat.le_of_ble_eq_true rfl) (fun x sz hX => ?_)
  have X := hX.1
  unfold m_isNut at h
  show V x 3 Km 0 0 sz g 0 [(0, .ref (xb x + 0)), (1, vI l1), (2, vI l2)] []
  refine V_aload_n X dX10_isNut_0 0 rfl ?_
  refine V_iload_n X dX10_isNut_1 1 rfl ?_
  refine V_iconst X dX10_isNut_2 ?_
  refine V_aload_n X dX10_isNut_3 0 rfl ?_
  refine getX10 X (o := 0) (j := 35) rfl (by decide) q1583 (fv_0 rfl) dX10_isNut_4 ?_
  refine V_iconst X dX10_isNut_7 ?_
  refine V_isub X dX10_isNut_8 ?_
  obtain ⟨c9, hc9, h⟩ := bind_some_eq h
  refine V_callS (As := [vI l1, vI 0, vI ((gI g 935 0) - 1)]) (rest := [.ref (xb x + 0)]) (s1 := [vI c9, .ref (xb x + 0)]) X (con_m_within g l1 0 ((gI g 935 0) - 1) c9 hc9) gwX10_within hdX10_within (by decide) rfl rfl (Nat.le_of_ble_eq_true rfl) ⟨Nat.zero_le _, Nat.zero_le _⟩ dX10_isNut_9 rfl rfl ?_
  refine V_iload_n X dX10_isNut_12 2 rfl ?_
  refine V_iconst X dX10_isNut_13 ?_
  obtain ⟨c14, hc14, h⟩ := bind_some_eq h
  refine V_callV (As := [vI c9, vI l2, vI 0]) (rest := []) (s1 := [vI c14.1]) (o := 0) X (con_m_may g c9 l2 0 c14 hc14) gwX10_may hdX10_may (by decide) rfl (by decide) rfl rfl rfl (Nat.le_of_ble_eq_true rfl) ⟨Nat.zero_le _, Nat.zero_le _⟩ dX10_isNut_14 rfl rfl ?_
  obtain ⟨h01, h⟩ := rtZ_some h
  have hr := Option.some.inj h
  subst hr
  exact V_end_z hX h01 rfl dX10_isNut_17
set_option maxHeartbeats 4000000 in
theorem con_m_isLine (g : GS) (l1 : Int) (l2 : Int) (r : (Int × GS)) (h : m_isLine g l1 l2 = some r) : Con yX10_isLine cX10_isLine 3 (some .boolean) 2 35 Km (fun b => [.ref (b + 0), vI l1, vI l2]) g (fun _ => some (vI r.1)) r.2 := by
  refine Con.of RX10 (by decide) rfl (fun b => Nat.le_of_ble_eq_true rfl) (fun x sz hX => ?_)
  have X := hX.1
  unfold m_isLine at h
  show V x 3 Km 0 0 sz g 0 [(0, .ref (xb x + 0)), (1, vI l1), (2, vI l2)] []
  refine V_aload_n X dX10_isLine_0 0 rfl ?_
  refine V_iload_n X dX10_isLine_1 1 rfl ?_
  refine V_iconst X dX10_isLine_2 ?_
  refine V_aload_n X dX10_isLine_3 0 rfl ?_
  refine getX10 X (o := 0) (j := 49) rfl (by decide) q1597 (fv_0 rfl) dX10_isLine_4 ?_
  refine V_iconst X dX10_isLine_7 ?_
  refine V_isub X dX10_isLine_8 ?_
  obtain ⟨c9, hc9, h⟩ := bind_some_eq h
  refine V_callS (As := [vI l1, vI 0, vI ((gI g 949 0) - 1)]) (rest := [.ref (xb x + 0)]) (s1 := [vI c9, .ref (xb x + 0)]) X (con_m_within g l1 0 ((gI g 949 0) - 1) c9 hc9) gwX10_within hdX10_within (by decide) rfl rfl (Nat.le_of_ble_eq_true rfl) ⟨Nat.zero_le _, Nat.zero_le _⟩ dX10_isLine_9 rfl rfl ?_
  refine V_iload_n X dX10_isLine_12 2 rfl ?_
  refine V_iconst X dX10_isLine_13 ?_
  obtain ⟨c14, hc14, h⟩ := bind_some_eq h
  refine V_callV (As := [vI c9, vI l2, vI 0]) (rest := []) (s1 := [vI c14.1]) (o := 0) X (con_m_may g c9 l2 0 c14 hc14) gwX10_may hdX10_may (by decide) rfl (by decide) rfl rfl rfl (Nat.le_of_ble_eq_true rfl) ⟨Nat.zero_le _, Nat.zero_le _⟩ dX10_isLine_14 rfl rfl ?_
  obtain ⟨h01, h⟩ := rtZ_some h
  have hr := Option.some.inj h
  subst hr
  exact V_end_z hX h01 rfl dX10_isLine_17
set_option maxHeartbeats 4000000 in
theorem con_m_deed (g : GS) (l1 : Int) (l2 : Int) (r : (Int × GS)) (h : m_deed g l1 l2 = some r) : Con yX10_deed cX10_deed 3 (some .int) 3 57 Km (fun b => [.ref (b + 0), vI l1, vI l2]) g (fun _ => some (vI r.1)) r.2 := by
  refine Con.of RX10 (by decide) rfl (fun b => Nat.le_of_ble_eq_true rfl) (fun x sz hX => ?_)
  have X := hX.1
  unfold m_deed at h
  show V x 3 Km 0 0 sz g 0 [(0, .ref (xb x + 0)), (1, vI l1), (2, vI l2)] []
  refine V_aload_n X dX10_deed_0 0 rfl ?_
  refine V_iconst X dX10_deed_1 ?_
  refine putX10 X (o := 0) (j := 0) (a := 0) rfl (by decide) rfl rfl rfl q1548 dX10_deed_2 ?_
  refine V_aload_n X dX10_deed_5 0 rfl ?_
  refine V_iload_n X dX10_deed_6 1 rfl ?_
  refine V_iconst X dX10_deed_7 ?_
  obtain ⟨c8, hc8, h⟩ := bind_some_eq h
  refine V_callV (As := [vI l1, vI 1]) (rest := []) (s1 := [vI c8.1]) (o := 0) X (con_m_isDeed (sI g 900 0 0) l1 1 c8 hc8) gwX10_isDeed hdX10_isDeed (by decide) rfl (by decide) rfl rfl rfl (Nat.le_of_ble_eq_true rfl) ⟨Nat.zero_le _, Nat.zero_le _⟩ dX10_deed_8 rfl rfl ?_
  refine V_if_eq (tgt := 29) X dX10_deed_11 (by decide) h (fun h => ?_) (fun h => ?_)
  · refine V_iconst X dX10_deed_29 ?_
    have hr := Option.some.inj h
    subst hr
    exact V_end_i hX rfl dX10_deed_30
  · refine V_aload_n X dX10_deed_14 0 rfl ?_
    refine V_iload_n X dX10_deed_15 2 rfl ?_
    refine V_iconst X dX10_deed_16 ?_
    refine V_iconst X dX10_deed_17 ?_
    obtain ⟨c18, hc18, h⟩ := bind_some_eq h
    refine V_callS (As := [vI l2, vI 0, vI 4]) (rest := [.ref (xb x + 0)]) (s1 := [vI c18, .ref (xb x + 0)]) X (con_m_within c8.2 l2 0 4 c18 hc18) gwX10_within hdX10_within (by decide) rfl rfl (Nat.le_of_ble_eq_true rfl) ⟨Nat.zero_le _, Nat.zero_le _⟩ dX10_deed_18 rfl rfl ?_
    refine V_iconst X dX10_deed_21 ?_
    refine V_iconst X dX10_deed_22 ?_
    obtain ⟨c23, hc23, h⟩ := bind_some_eq h
    refine V_callV (As := [vI c18, vI 2, vI 1]) (rest := []) (s1 := [vI c23.1]) (o := 0) X (con_m_may c8.2 c18 2 1 c23 hc23) gwX10_may hdX10_may (by decide) rfl (by decide) rfl rfl rfl (Nat.le_of_ble_eq_true rfl) ⟨Nat.zero_le _, Nat.zero_le _⟩ dX10_deed_23 rfl rfl ?_
    refine V_if_ne (tgt := 31) X dX10_deed_26 (by decide) h (fun h => ?_) (fun h => ?_)
    · refine V_aload_n X dX10_deed_31 0 rfl ?_
      refine getX10 X (o := 0) (j := 17) rfl (by decide) q1565 (fv_1 (i := 10) rfl rfl) dX10_deed_32 ?_
      refine V_iconst X dX10_deed_35 ?_
      refine V_iload_n X dX10_deed_36 1 rfl ?_
      refine V_imul X dX10_deed_37 ?_
      refine V_iload_n X dX10_deed_38 2 rfl ?_
      refine V_iadd X dX10_deed_39 ?_
      refine V_iald X (o := 10) (n := 60) rfl (by decide) dX10_deed_40 h (fun v40 h => ?_)
      have hr := Option.some.inj h
      subst hr
      exact V_end_i hX rfl dX10_deed_41
    · refine V_iconst X dX10_deed_29 ?_
      have hr := Option.some.inj h
      subst hr
      exact V_end_i hX rfl dX10_deed_30
set_option maxHeartbeats 4000000 in
theorem con_m_strong (g : GS) (l1 : Int) (r : (Int × GS)) (h : m_strong g l1 = some r) : Con yX10_strong cX10_strong 2 (some .int) 3 57 Km (fun b => [.ref (b + 0), vI l1]) g (fun _ => some (vI r.1)) r.2 := by
  refine Con.of RX10 (by decide) rfl (fun b => Nat.le_of_ble_eq_true rfl) (fun x sz hX => ?_)
  have X := hX.1
  unfold m_strong at h
  show V x 2 Km 0 0 sz g 0 [(0, .ref (xb x + 0)), (1, vI l1)] []
  refine V_aload_n X dX10_strong_0 0 rfl ?_
  refine V_iconst X dX10_strong_1 ?_
  refine putX10 X (o := 0) (j := 0) (a := 0) rfl (by decide) rfl rfl rfl q1548 dX10_strong_2 ?_
  refine V_aload_n X dX10_strong_5 0 rfl ?_
  refine V_iload_n X dX10_strong_6 1 rfl ?_
  refine V_iconst X dX10_strong_7 ?_
  obtain ⟨c8, hc8, h⟩ := bind_some_eq h
  refine V_callV (As := [vI l1, vI 1]) (rest := []) (s1 := [vI c8.1]) (o := 0) X (con_m_isPerson (sI g 900 0 0) l1 1 c8 hc8) gwX10_isPerson hdX10_isPerson (by decide) rfl (by decide) rfl rfl rfl (Nat.le_of_ble_eq_true rfl) ⟨Nat.zero_le _, Nat.zero_le _⟩ dX10_strong_8 rfl rfl ?_
  refine V_if_ne (tgt := 16) X dX10_strong_11 (by decide) h (fun h => ?_) (fun h => ?_)
  · refine V_aload_n X dX10_strong_16 0 rfl ?_
    refine getX10 X (o := 0) (j := 16) rfl (by decide) q1564 (fv_1 (i := 9) rfl rfl) dX10_strong_17 ?_
    refine V_iload_n X dX10_strong_20 1 rfl ?_
    refine V_iald X (o := 9) (n := 4) rfl (by decide) dX10_strong_21 h (fun v21 h => ?_)
    have hr := Option.some.inj h
    subst hr
    exact V_end_i hX rfl dX10_strong_22
  · refine V_iconst X dX10_strong_14 ?_
    have hr := Option.some.inj h
    subst hr
    exact V_end_i hX rfl dX10_strong_15
set_option maxHeartbeats 4000000 in
theorem con_m_bears (g : GS) (l1 : Int) (r : (Int × GS)) (h : m_bears g l1 = some r) : Con yX10_bears cX10_bears 2 (some .int) 2 35 Km (fun b => [.ref (b + 0), vI l1]) g (fun _ => some (vI r.1)) r.2 := by
  refine Con.of RX10 (by decide) rfl (fun b => Nat.le_of_ble_eq_true rfl) (fun x sz hX => ?_)
  have X := hX.1
  unfold m_bears at h
  show V x 2 Km 0 0 sz g 0 [(0, .ref (xb x + 0)), (1, vI l1)] []
  refine V_aload_n X dX10_bears_0 0 rfl ?_
  refine V_iconst X dX10_bears_1 ?_
  refine putX10 X (o := 0) (j := 0) (a := 0) rfl (by decide) rfl rfl rfl q1548 dX10_bears_2 ?_
  refine V_aload_n X dX10_bears_5 0 rfl ?_
  refine V_iload_n X dX10_bears_6 1 rfl ?_
  refine V_iconst X dX10_bears_7 ?_
  refine V_bipush X dX10_bears_8 (by decide) ?_
  obtain ⟨c10, hc10, h⟩ := bind_some_eq h
  refine V_callS (As := [vI l1, vI 0, vI 59]) (rest := [.ref (xb x + 0)]) (s1 := [vI c10, .ref (xb x + 0)]) X (con_m_within (sI g 900 0 0) l1 0 59 c10 hc10) gwX10_within hdX10_within (by decide) rfl rfl (Nat.le_of_ble_eq_true rfl) ⟨Nat.zero_le _, Nat.zero_le _⟩ dX10_bears_10 rfl rfl ?_
  refine V_iconst X dX10_bears_13 ?_
  refine V_iconst X dX10_bears_14 ?_
  obtain ⟨c15, hc15, h⟩ := bind_some_eq h
  refine V_callV (As := [vI c10, vI 1, vI 1]) (rest := []) (s1 := [vI c15.1]) (o := 0) X (con_m_may (sI g 900 0 0) c10 1 1 c15 hc15) gwX10_may hdX10_may (by decide) rfl (by decide) rfl rfl rfl (Nat.le_of_ble_eq_true rfl) ⟨Nat.zero_le _, Nat.zero_le _⟩ dX10_bears_15 rfl rfl ?_
  refine V_if_ne (tgt := 23) X dX10_bears_18 (by decide) h (fun h => ?_) (fun h => ?_)
  · refine V_aload_n X dX10_bears_23 0 rfl ?_
    refine getX10 X (o := 0) (j := 18) rfl (by decide) q1566 (fv_1 (i := 11) rfl rfl) dX10_bears_24 ?_
    refine V_iload_n X dX10_bears_27 1 rfl ?_
    refine V_iald X (o := 11) (n := 60) rfl (by decide) dX10_bears_28 h (fun v28 h => ?_)
    have hr := Option.some.inj h
    subst hr
    exact V_end_i hX rfl dX10_bears_29
  · refine V_iconst X dX10_bears_21 ?_
    have hr := Option.some.inj h
    subst hr
    exact V_end_i hX rfl dX10_bears_22
set_option maxHeartbeats 4000000 in
theorem con_m_isRain (g : GS) (l1 : Int) (r : Int) (h : m_isRain g l1 = some r) : Con yX10_isRain cX10_isRain 2 (some .boolean) 1 12 Km (fun b => [.ref (b + 0), vI l1]) g (fun _ => some (vI r)) g := by
  refine Con.of RX10 (by decide) rfl (fun b => Nat.le_of_ble_eq_true rfl) (fun x sz hX => ?_)
  have X := hX.1
  unfold m_isRain at h
  show V x 2 Km 0 0 sz g 0 [(0, .ref (xb x + 0)), (1, vI l1)] []
  refine V_iload_n X dX10_isRain_0 1 rfl ?_
  refine V_sipush X dX10_isRain_1 (by decide) ?_
  refine V_icmp_ge (tgt := 20) X dX10_isRain_4 (by decide) h (fun h => ?_) (fun h => ?_)
  · refine V_iconst X dX10_isRain_20 ?_
    have hr := Option.some.inj h
    subst hr
    exact V_end_z hX (Or.inl rfl) rfl dX10_isRain_21
  · refine V_aload_n X dX10_isRain_7 0 rfl ?_
    refine getX10 X (o := 0) (j := 23) rfl (by decide) q1571 (fv_1 (i := 16) rfl rfl) dX10_isRain_8 ?_
    refine V_iload_n X dX10_isRain_11 1 rfl ?_
    refine V_zald X (o := 16) (n := 241) rfl (by decide) dX10_isRain_12 h (fun v12 h => ?_)
    refine V_if_eq (tgt := 20) X dX10_isRain_13 (by decide) h (fun h => ?_) (fun h => ?_)
    · refine V_iconst X dX10_isRain_20 ?_
      have hr := Option.some.inj h
      subst hr
      exact V_end_z hX (Or.inl rfl) rfl dX10_isRain_21
    · refine V_iconst X dX10_isRain_16 ?_
      refine V_goto (tgt := 21) X dX10_isRain_17 (by decide) ?_
      have hr := Option.some.inj h
      subst hr
      exact V_end_z hX (Or.inr rfl) rfl dX10_isRain_21
set_option maxHeartbeats 4000000 in
theorem con_m_rains (g : GS) (l1 : Int) (r : (Int × GS)) (h : m_rains g l1 = some r) : Con yX10_rains cX10_rains 2 (some .boolean) 2 35 Km (fun b => [.ref (b + 0), vI l1]) g (fun _ => some (vI r.1)) r.2 := by
  refine Con.of RX10 (by decide) rfl (fun b => Nat.le_of_ble_eq_true rfl) (fun x sz hX => ?_)
  have X := hX.1
  unfold m_rains at h
  show V x 2 Km 0 0 sz g 0 [(0, .ref (xb x + 0)), (1, vI l1)] []
  refine V_aload_n X dX10_rains_0 0 rfl ?_
  refine V_iconst X dX10_rains_1 ?_
  refine putX10 X (o := 0) (j := 0) (a := 0) rfl (by decide) rfl rfl rfl q1548 dX10_rains_2 ?_
  refine V_aload_n X dX10_rains_5 0 rfl ?_
  refine V_iload_n X dX10_rains_6 1 rfl ?_
  refine V_iconst X dX10_rains_7 ?_
  refine V_sipush X dX10_rains_8 (by decide) ?_
  obtain ⟨c11, hc11, h⟩ := bind_some_eq h
  refine V_callS (As := [vI l1, vI 0, vI 240]) (rest := [.ref (xb x + 0)]) (s1 := [vI c11, .ref (xb x + 0)]) X (con_m_within (sI g 900 0 0) l1 0 240 c11 hc11) gwX10_within hdX10_within (by decide) rfl rfl (Nat.le_of_ble_eq_true rfl) ⟨Nat.zero_le _, Nat.zero_le _⟩ dX10_rains_11 rfl rfl ?_
  refine V_iconst X dX10_rains_14 ?_
  refine V_iconst X dX10_rains_15 ?_
  obtain ⟨c16, hc16, h⟩ := bind_some_eq h
  refine V_callV (As := [vI c11, vI 1, vI 1]) (rest := []) (s1 := [vI c16.1]) (o := 0) X (con_m_may (sI g 900 0 0) c11 1 1 c16 hc16) gwX10_may hdX10_may (by decide) rfl (by decide) rfl rfl rfl (Nat.le_of_ble_eq_true rfl) ⟨Nat.zero_le _, Nat.zero_le _⟩ dX10_rains_16 rfl rfl ?_
  refine V_if_ne (tgt := 24) X dX10_rains_19 (by decide) h (fun h => ?_) (fun h => ?_)
  · refine V_aload_n X dX10_rains_24 0 rfl ?_
    refine getX10 X (o := 0) (j := 23) rfl (by decide) q1571 (fv_1 (i := 16) rfl rfl) dX10_rains_25 ?_
    refine V_iload_n X dX10_rains_28 1 rfl ?_
    refine V_zald X (o := 16) (n := 241) rfl (by decide) dX10_rains_29 h (fun v29 h => ?_)
    obtain ⟨h01, h⟩ := rtZ_some h
    have hr := Option.some.inj h
    subst hr
    exact V_end_z hX h01 rfl dX10_rains_30
  · refine V_iconst X dX10_rains_22 ?_
    have hr := Option.some.inj h
    subst hr
    exact V_end_z hX (Or.inl rfl) rfl dX10_rains_23
set_option maxHeartbeats 4000000 in
theorem con_m_would (N : Nat) (g : GS) (l1 : Int) (l2 : Int) (l3 : Int) (l4 : Int) (l5 : Int) (l6 : Int) (r : (Int × GS)) (h : m_would N g l1 l2 l3 l4 l5 l6 = some r) : Con yX10_would cX10_would 7 (some .int) 4 78 Km (fun b => [.ref (b + 0), vI l1, vI l2, vI l3, vI l4, vI l5, vI l6]) g (fun _ => some (vI r.1)) r.2 := by
  refine Con.of RX10 (by decide) rfl (fun b => Nat.le_of_ble_eq_true rfl) (fun x sz hX => ?_)
  have X := hX.1
  have J72 : ∀ (g : GS) (l1 : Int) (l2 : Int) (l3 : Int) (l4 : Int) (l5 : Int) (l6 : Int) (s0 : Int), m_would_j72 N g l1 l2 l3 l4 l5 l6 s0 = some r → V x 7 Km 0 0 sz g 72 [(0, .ref (xb x + 0)), (1, vI l1), (2, vI l2), (3, vI l3), (4, vI l4), (5, vI l5), (6, vI l6)] [vI s0, .ref (xb x + 0)] := by
    intro g l1 l2 l3 l4 l5 l6 s0 h
    unfold m_would_j72 at h
    refine V_iconst X dX10_would_72 ?_
    refine V_iconst X dX10_would_73 ?_
    obtain ⟨c74, hc74, h⟩ := bind_some_eq h
    refine V_callV (As := [vI s0, vI 1, vI 1]) (rest := []) (s1 := [vI c74.1]) (o := 0) X (con_m_may g s0 1 1 c74 hc74) gwX10_may hdX10_may (by decide) rfl (by decide) rfl rfl rfl (Nat.le_of_ble_eq_true rfl) ⟨Nat.zero_le _, Nat.zero_le _⟩ dX10_would_74 rfl rfl ?_
    refine V_if_ne (tgt := 82) X dX10_would_77 (by decide) h (fun h => ?_) (fun h => ?_)
    · refine V_aload_n X dX10_would_82 0 rfl ?_
      refine getX10 X (o := 0) (j := 44) rfl (by decide) q1592 (fv_1 (i := 24) rfl rfl) dX10_would_83 ?_
      refine V_iconst X dX10_would_86 ?_
      refine V_iload_n X dX10_would_87 1 rfl ?_
      refine V_iast X (o := 24) (n := 6) rfl (by decide) dX10_would_88 h (fun g88 h => ?_)
      refine V_aload_n X dX10_would_89 0 rfl ?_
      refine getX10 X (o := 0) (j := 44) rfl (by decide) q1592 (fv_1 (i := 24) rfl rfl) dX10_would_90 ?_
      refine V_iconst X dX10_would_93 ?_
      refine V_iload_n X dX10_would_94 2 rfl ?_
      refine V_iast X (o := 24) (n := 6) rfl (by decide) dX10_would_95 h (fun g95 h => ?_)
      refine V_aload_n X dX10_would_96 0 rfl ?_
      refine getX10 X (o := 0) (j := 44) rfl (by decide) q1592 (fv_1 (i := 24) rfl rfl) dX10_would_97 ?_
      refine V_iconst X dX10_would_100 ?_
      refine V_iload_n X dX10_would_101 3 rfl ?_
      refine V_iast X (o := 24) (n := 6) rfl (by decide) dX10_would_102 h (fun g102 h => ?_)
      refine V_aload_n X dX10_would_103 0 rfl ?_
      refine getX10 X (o := 0) (j := 44) rfl (by decide) q1592 (fv_1 (i := 24) rfl rfl) dX10_would_104 ?_
      refine V_iconst X dX10_would_107 ?_
      refine V_iload X dX10_would_108 4 rfl ?_
      refine V_iast X (o := 24) (n := 6) rfl (by decide) dX10_would_110 h (fun g110 h => ?_)
      refine V_aload_n X dX10_would_111 0 rfl ?_
      refine getX10 X (o := 0) (j := 44) rfl (by decide) q1592 (fv_1 (i := 24) rfl rfl) dX10_would_112 ?_
      refine V_iconst X dX10_would_115 ?_
      refine V_iload X dX10_would_116 5 rfl ?_
      refine V_iast X (o := 24) (n := 6) rfl (by decide) dX10_would_118 h (fun g118 h => ?_)
      refine V_aload_n X dX10_would_119 0 rfl ?_
      refine getX10 X (o := 0) (j := 44) rfl (by decide) q1592 (fv_1 (i := 24) rfl rfl) dX10_would_120 ?_
      refine V_iconst X dX10_would_123 ?_
      refine V_iload X dX10_would_124 6 rfl ?_
      refine V_iast X (o := 24) (n := 6) rfl (by decide) dX10_would_126 h (fun g126 h => ?_)
      refine V_aload_n X dX10_would_127 0 rfl ?_
      obtain ⟨c128, hc128, h⟩ := bind_some_eq h
      refine V_callV (As := []) (rest := []) (s1 := [vI c128.1]) (o := 0) X (con_m_lastsNow N g126 c128 hc128) gwX10_lastsNow hdX10_lastsNow (by decide) rfl (by decide) rfl rfl rfl (Nat.le_of_ble_eq_true rfl) ⟨Nat.zero_le _, Nat.zero_le _⟩ dX10_would_128 rfl rfl ?_
      have hr := Option.some.inj h
      subst hr
      exact V_end_i hX rfl dX10_would_131
    · refine V_iconst X dX10_would_80 ?_
      have hr := Option.some.inj h
      subst hr
      exact V_end_i hX rfl dX10_would_81
  have J71 : ∀ (g : GS) (l1 : Int) (l2 : Int) (l3 : Int) (l4 : Int) (l5 : Int) (l6 : Int), m_would_j71 N g l1 l2 l3 l4 l5 l6 = some r → V x 7 Km 0 0 sz g 71 [(0, .ref (xb x + 0)), (1, vI l1), (2, vI l2), (3, vI l3), (4, vI l4), (5, vI l5), (6, vI l6)] [.ref (xb x + 0)] := by
    intro g l1 l2 l3 l4 l5 l6 h
    unfold m_would_j71 at h
    refine V_iconst X dX10_would_71 ?_
    exact V_sub [0, 1, 2, 3, 4, 5, 6] rfl (J72 _ _ _ _ _ _ _ _ h)
  unfold m_would at h
  show V x 7 Km 0 0 sz g 0 [(0, .ref (xb x + 0)), (1, vI l1), (2, vI l2), (3, vI l3), (4, vI l4), (5, vI l5), (6, vI l6)] []
  refine V_aload_n X dX10_would_0 0 rfl ?_
  refine V_iconst X dX10_would_1 ?_
  refine putX10 X (o := 0) (j := 0) (a := 0) rfl (by decide) rfl rfl rfl q1548 dX10_would_2 ?_
  refine V_aload_n X dX10_would_5 0 rfl ?_
  refine V_iload_n X dX10_would_6 1 rfl ?_
  refine V_iconst X dX10_would_7 ?_
  refine V_bipush X dX10_would_8 (by decide) ?_
  obtain ⟨c10, hc10, h⟩ := bind_some_eq h
  refine V_callS (As := [vI l1, vI 1, vI 30]) (rest := [.ref (xb x + 0)]) (s1 := [vI c10, .ref (xb x + 0)]) X (con_m_within (sI g 900 0 0) l1 1 30 c10 hc10) gwX10_within hdX10_within (by decide) rfl rfl (Nat.le_of_ble_eq_true rfl) ⟨Nat.zero_le _, Nat.zero_le _⟩ dX10_would_10 rfl rfl ?_
  refine V_if_eq (tgt := 71) X dX10_would_13 (by decide) h (fun h => ?_) (fun h => ?_)
  · exact V_sub [0, 1, 2, 3, 4, 5, 6] rfl (J71 _ _ _ _ _ _ _ h)
  · refine V_iload_n X dX10_would_16 2 rfl ?_
    refine V_iconst X dX10_would_17 ?_
    refine V_iconst X dX10_would_18 ?_
    obtain ⟨c19, hc19, h⟩ := bind_some_eq h
    refine V_callS (As := [vI l2, vI 1, vI 2]) (rest := [.ref (xb x + 0)]) (s1 := [vI c19, .ref (xb x + 0)]) X (con_m_within (sI g 900 0 0) l2 1 2 c19 hc19) gwX10_within hdX10_within (by decide) rfl rfl (Nat.le_of_ble_eq_true rfl) ⟨Nat.zero_le _, Nat.zero_le _⟩ dX10_would_19 rfl rfl ?_
    refine V_if_eq (tgt := 71) X dX10_would_22 (by decide) h (fun h => ?_) (fun h => ?_)
    · exact V_sub [0, 1, 2, 3, 4, 5, 6] rfl (J71 _ _ _ _ _ _ _ h)
    · refine V_iload_n X dX10_would_25 3 rfl ?_
      refine V_iconst X dX10_would_26 ?_
      refine V_bipush X dX10_would_27 (by decide) ?_
      obtain ⟨c29, hc29, h⟩ := bind_some_eq h
      refine V_callS (As := [vI l3, vI 0, vI 18]) (rest := [.ref (xb x + 0)]) (s1 := [vI c29, .ref (xb x + 0)]) X (con_m_within (sI g 900 0 0) l3 0 18 c29 hc29) gwX10_within hdX10_within (by decide) rfl rfl (Nat.le_of_ble_eq_true rfl) ⟨Nat.zero_le _, Nat.zero_le _⟩ dX10_would_29 rfl rfl ?_
      refine V_if_eq (tgt := 71) X dX10_would_32 (by decide) h (fun h => ?_) (fun h => ?_)
      · exact V_sub [0, 1, 2, 3, 4, 5, 6] rfl (J71 _ _ _ _ _ _ _ h)
      · refine V_iload X dX10_would_35 4 rfl ?_
        refine V_iconst X dX10_would_37 ?_
        refine V_iconst X dX10_would_38 ?_
        obtain ⟨c39, hc39, h⟩ := bind_some_eq h
        refine V_callS (As := [vI l4, vI 0, vI 1]) (rest := [.ref (xb x + 0)]) (s1 := [vI c39, .ref (xb x + 0)]) X (con_m_within (sI g 900 0 0) l4 0 1 c39 hc39) gwX10_within hdX10_within (by decide) rfl rfl (Nat.le_of_ble_eq_true rfl) ⟨Nat.zero_le _, Nat.zero_le _⟩ dX10_would_39 rfl rfl ?_
        refine V_if_eq (tgt := 71) X dX10_would_42 (by decide) h (fun h => ?_) (fun h => ?_)
        · exact V_sub [0, 1, 2, 3, 4, 5, 6] rfl (J71 _ _ _ _ _ _ _ h)
        · refine V_iload X dX10_would_45 5 rfl ?_
          refine V_iconst X dX10_would_47 ?_
          refine V_sipush X dX10_would_48 (by decide) ?_
          obtain ⟨c51, hc51, h⟩ := bind_some_eq h
          refine V_callS (As := [vI l5, vI 0, vI 240]) (rest := [.ref (xb x + 0)]) (s1 := [vI c51, .ref (xb x + 0)]) X (con_m_within (sI g 900 0 0) l5 0 240 c51 hc51) gwX10_within hdX10_within (by decide) rfl rfl (Nat.le_of_ble_eq_true rfl) ⟨Nat.zero_le _, Nat.zero_le _⟩ dX10_would_51 rfl rfl ?_
          refine V_if_eq (tgt := 71) X dX10_would_54 (by decide) h (fun h => ?_) (fun h => ?_)
          · exact V_sub [0, 1, 2, 3, 4, 5, 6] rfl (J71 _ _ _ _ _ _ _ h)
          · refine V_iload X dX10_would_57 6 rfl ?_
            refine V_iconst X dX10_would_59 ?_
            refine V_iconst X dX10_would_60 ?_
            obtain ⟨c61, hc61, h⟩ := bind_some_eq h
            refine V_callS (As := [vI l6, vI 0, vI 1]) (rest := [.ref (xb x + 0)]) (s1 := [vI c61, .ref (xb x + 0)]) X (con_m_within (sI g 900 0 0) l6 0 1 c61 hc61) gwX10_within hdX10_within (by decide) rfl rfl (Nat.le_of_ble_eq_true rfl) ⟨Nat.zero_le _, Nat.zero_le _⟩ dX10_would_61 rfl rfl ?_
            refine V_if_eq (tgt := 71) X dX10_would_64 (by decide) h (fun h => ?_) (fun h => ?_)
            · exact V_sub [0, 1, 2, 3, 4, 5, 6] rfl (J71 _ _ _ _ _ _ _ h)
            · refine V_iconst X dX10_would_67 ?_
              refine V_goto (tgt := 72) X dX10_would_68 (by decide) ?_
              exact V_sub [0, 1, 2, 3, 4, 5, 6] rfl (J72 _ _ _ _ _ _ _ _ h)
set_option maxHeartbeats 4000000 in
theorem con_m_strengthOf (N : Nat) (g : GS) (l1 : Int) (r : Int) (h : m_strengthOf N g l1 = some r) : Con yX10_strengthOf cX10_strengthOf 4 (some .int) 1 12 Km (fun b => [.ref (b + 0), vI l1]) g (fun _ => some (vI r)) g := by
  refine Con.of RX10 (by decide) rfl (fun b => Nat.le_of_ble_eq_true rfl) (fun x sz hX => ?_)
  have X := hX.1
  have LL4 : ∀ (l1 : Int) (n : Nat) (s : (Int × Int)) (e : Int), loopN (fun s => m_strengthOf_b4 N g l1 s.1 s.2) n s = some e → (e = r) → V x 4 Km 0 0 sz g 4 [(0, .ref (xb x + 0)), (1, vI l1), (2, vI s.1), (3, vI s.2)] [] := by
    intro l1 n s e
    refine loop_walk (P := fun s => V x 4 Km 0 0 sz g 4 [(0, .ref (xb x + 0)), (1, vI l1), (2, vI s.1), (3, vI s.2)] []) (E := fun e => e = r) ?_ n s e
    clear e s n
    rintro ⟨l2, l3⟩ q4 h hc4 he4
    replace h : m_strengthOf_b4 N g l1 l2 l3 = some q4 := h
    unfold m_strengthOf_b4 at h
    show V x 4 Km 0 0 sz g 4 [(0, .ref (xb x + 0)), (1, vI l1), (2, vI l2), (3, vI l3)] []
    refine V_iload_n X dX10_strengthOf_4 3 rfl ?_
    refine V_aload_n X dX10_strengthOf_5 0 rfl ?_
    refine getX10 X (o := 0) (j := 32) rfl (by decide) q1580 (fv_0 rfl) dX10_strengthOf_6 ?_
    refine V_icmp_ge (tgt := 33) X dX10_strengthOf_9 (by decide) h (fun h => ?_) (fun h => ?_)
    · obtain ⟨e1, h, e1q⟩ := outR_some h
      replace h := h.trans (congrArg some (he4 _ e1q))
      refine V_iload_n X dX10_strengthOf_33 2 rfl ?_
      have hr := Option.some.inj h
      subst hr
      exact V_end_i hX rfl dX10_strengthOf_34
    · refine V_iload_n X dX10_strengthOf_12 2 rfl ?_
      refine V_iload_n X dX10_strengthOf_13 1 rfl ?_
      refine V_iload_n X dX10_strengthOf_14 3 rfl ?_
      refine V_ishr X dX10_strengthOf_15 ?_
      refine V_iconst X dX10_strengthOf_16 ?_
      refine V_iand X dX10_strengthOf_17 ?_
      refine V_aload_n X dX10_strengthOf_18 0 rfl ?_
      refine getX10 X (o := 0) (j := 16) rfl (by decide) q1564 (fv_1 (i := 9) rfl rfl) dX10_strengthOf_19 ?_
      refine V_iload_n X dX10_strengthOf_22 3 rfl ?_
      refine V_iald X (o := 9) (n := 4) rfl (by decide) dX10_strengthOf_23 h (fun v23 h => ?_)
      refine V_imul X dX10_strengthOf_24 ?_
      refine V_iadd X dX10_strengthOf_25 ?_
      refine V_istore_n X dX10_strengthOf_26 (by decide) (L' := [(2, vI (l2 + ((i_and (i_shr l1 l3) 1) * v23))), (0, .ref (xb x + 0)), (1, vI l1), (3, vI l3)]) rfl ?_
      refine V_iinc X dX10_strengthOf_27 3 rfl (by decide) (L' := [(3, vI (l3 + 1)), (2, vI (l2 + ((i_and (i_shr l1 l3) 1) * v23))), (0, .ref (xb x + 0)), (1, vI l1)]) rfl ?_
      refine V_goto (tgt := 4) X dX10_strengthOf_30 (by decide) ?_
      exact V_sub [2, 3, 1, 0] rfl (hc4 _ (Option.some.inj h).symm)
  unfold m_strengthOf at h
  show V x 4 Km 0 0 sz g 0 [(0, .ref (xb x + 0)), (1, vI l1)] []
  refine V_iconst X dX10_strengthOf_0 ?_
  refine V_istore_n X dX10_strengthOf_1 (by decide) (L' := [(2, vI 0), (0, .ref (xb x + 0)), (1, vI l1)]) rfl ?_
  refine V_iconst X dX10_strengthOf_2 ?_
  refine V_istore_n X dX10_strengthOf_3 (by decide) (L' := [(3, vI 0), (2, vI 0), (0, .ref (xb x + 0)), (1, vI l1)]) rfl ?_
  exact V_sub [2, 3, 1, 0] rfl (LL4 l1 N (0, 0) _ h rfl)
set_option maxHeartbeats 4000000 in
theorem con_m_onesOf (N : Nat) (g : GS) (l1 : Int) (r : Int) (h : m_onesOf N g l1 = some r) : Con yX10_onesOf cX10_onesOf 4 (some .int) 1 12 Km (fun b => [.ref (b + 0), vI l1]) g (fun _ => some (vI r)) g := by
  refine Con.of RX10 (by decide) rfl (fun b => Nat.le_of_ble_eq_true rfl) (fun x sz hX => ?_)
  have X := hX.1
  have LL4 : ∀ (l1 : Int) (n : Nat) (s : (Int × Int)) (e : Int), loopN (fun s => m_onesOf_b4 N g l1 s.1 s.2) n s = some e → (e = r) → V x 4 Km 0 0 sz g 4 [(1, vI l1), (2, vI s.1), (3, vI s.2)] [] := by
    intro l1 n s e
    refine loop_walk (P := fun s => V x 4 Km 0 0 sz g 4 [(1, vI l1), (2, vI s.1), (3, vI s.2)] []) (E := fun e => e = r) ?_ n s e
    clear e s n
    rintro ⟨l2, l3⟩ q4 h hc4 he4
    replace h : m_onesOf_b4 N g l1 l2 l3 = some q4 := h
    unfold m_onesOf_b4 at h
    show V x 4 Km 0 0 sz g 4 [(1, vI l1), (2, vI l2), (3, vI l3)] []
    refine V_iload_n X dX10_onesOf_4 2 rfl ?_
    refine V_bipush X dX10_onesOf_5 (by decide) ?_
    refine V_icmp_ge (tgt := 24) X dX10_onesOf_7 (by decide) h (fun h => ?_) (fun h => ?_)
    · obtain ⟨e1, h, e1q⟩ := outR_some h
      replace h := h.trans (congrArg some (he4 _ e1q))
      refine V_iload_n X dX10_onesOf_24 1 rfl ?_
      have hr := Option.some.inj h
      subst hr
      exact V_end_i hX rfl dX10_onesOf_25
    · refine V_iload_n X dX10_onesOf_10 1 rfl ?_
      refine V_iload_n X dX10_onesOf_11 0 rfl ?_
      refine V_iload_n X dX10_onesOf_12 2 rfl ?_
      refine V_ishr X dX10_onesOf_13 ?_
      refine V_iconst X dX10_onesOf_14 ?_
      refine V_iand X dX10_onesOf_15 ?_
      refine V_iadd X dX10_onesOf_16 ?_
      refine V_istore_n X dX10_onesOf_17 (by decide) (L' := [(2, vI (l2 + (i_and (i_shr l1 l3) 1))), (1, vI l1), (3, vI l3)]) rfl ?_
      refine V_iinc X dX10_onesOf_18 2 rfl (by decide) (L' := [(3, vI (l3 + 1)), (2, vI (l2 + (i_and (i_shr l1 l3) 1))), (1, vI l1)]) rfl ?_
      refine V_goto (tgt := 4) X dX10_onesOf_21 (by decide) ?_
      exact V_sub [2, 1, 0] rfl (hc4 _ (Option.some.inj h).symm)
  unfold m_onesOf at h
  show V x 4 Km 0 0 sz g 0 [(0, .ref (xb x + 0)), (1, vI l1)] []
  refine V_iconst X dX10_onesOf_0 ?_
  refine V_istore_n X dX10_onesOf_1 (by decide) (L' := [(2, vI 0), (0, .ref (xb x + 0)), (1, vI l1)]) rfl ?_
  refine V_iconst X dX10_onesOf_2 ?_
  refine V_istore_n X dX10_onesOf_3 (by decide) (L' := [(3, vI 0), (2, vI 0), (0, .ref (xb x + 0)), (1, vI l1)]) rfl ?_
  exact V_sub [3, 1, 0] rfl (LL4 l1 N (0, 0) _ h rfl)
set_option maxHeartbeats 4000000 in
theorem con_m_mayDo (N : Nat) (g : GS) (l1 : Int) (l2 : Int) (r : Int) (h : m_mayDo N g l1 l2 = some r) : Con yX10_mayDo cX10_mayDo 3 (some .boolean) 2 35 Km (fun b => [.ref (b + 0), vI l1, vI l2]) g (fun _ => some (vI r)) g := by
  refine Con.of RX10 (by decide) rfl (fun b => Nat.le_of_ble_eq_true rfl) (fun x sz hX => ?_)
  have X := hX.1
  unfold m_mayDo at h
  show V x 3 Km 0 0 sz g 0 [(0, .ref (xb x + 0)), (1, vI l1), (2, vI l2)] []
  refine V_aload_n X dX10_mayDo_0 0 rfl ?_
  refine V_iload_n X dX10_mayDo_1 2 rfl ?_
  obtain ⟨c2, hc2, h⟩ := bind_some_eq h
  refine V_callV (As := [vI l2]) (rest := []) (s1 := [vI c2]) (o := 0) X (con_m_onesOf N g l2 c2 hc2) gwX10_onesOf hdX10_onesOf (by decide) rfl (by decide) rfl rfl rfl (Nat.le_of_ble_eq_true rfl) ⟨Nat.zero_le _, Nat.zero_le _⟩ dX10_mayDo_2 rfl rfl ?_
  refine V_aload_n X dX10_mayDo_5 0 rfl ?_
  refine getX10 X (o := 0) (j := 17) rfl (by decide) q1565 (fv_1 (i := 10) rfl rfl) dX10_mayDo_6 ?_
  refine V_iconst X dX10_mayDo_9 ?_
  refine V_iload_n X dX10_mayDo_10 1 rfl ?_
  refine V_imul X dX10_mayDo_11 ?_
  refine V_iconst X dX10_mayDo_12 ?_
  refine V_iadd X dX10_mayDo_13 ?_
  refine V_iald X (o := 10) (n := 60) rfl (by decide) dX10_mayDo_14 h (fun v14 h => ?_)
  refine V_icmp_ne (tgt := 40) X dX10_mayDo_15 (by decide) h (fun h => ?_) (fun h => ?_)
  · refine V_iconst X dX10_mayDo_40 ?_
    have hr := Option.some.inj h
    subst hr
    exact V_end_z hX (Or.inl rfl) rfl dX10_mayDo_41
  · refine V_aload_n X dX10_mayDo_18 0 rfl ?_
    refine V_iload_n X dX10_mayDo_19 2 rfl ?_
    obtain ⟨c20, hc20, h⟩ := bind_some_eq h
    refine V_callV (As := [vI l2]) (rest := []) (s1 := [vI c20]) (o := 0) X (con_m_strengthOf N g l2 c20 hc20) gwX10_strengthOf hdX10_strengthOf (by decide) rfl (by decide) rfl rfl rfl (Nat.le_of_ble_eq_true rfl) ⟨Nat.zero_le _, Nat.zero_le _⟩ dX10_mayDo_20 rfl rfl ?_
    refine V_aload_n X dX10_mayDo_23 0 rfl ?_
    refine getX10 X (o := 0) (j := 17) rfl (by decide) q1565 (fv_1 (i := 10) rfl rfl) dX10_mayDo_24 ?_
    refine V_iconst X dX10_mayDo_27 ?_
    refine V_iload_n X dX10_mayDo_28 1 rfl ?_
    refine V_imul X dX10_mayDo_29 ?_
    refine V_iconst X dX10_mayDo_30 ?_
    refine V_iadd X dX10_mayDo_31 ?_
    refine V_iald X (o := 10) (n := 60) rfl (by decide) dX10_mayDo_32 h (fun v32 h => ?_)
    refine V_icmp_lt (tgt := 40) X dX10_mayDo_33 (by decide) h (fun h => ?_) (fun h => ?_)
    · refine V_iconst X dX10_mayDo_40 ?_
      have hr := Option.some.inj h
      subst hr
      exact V_end_z hX (Or.inl rfl) rfl dX10_mayDo_41
    · refine V_iconst X dX10_mayDo_36 ?_
      refine V_goto (tgt := 41) X dX10_mayDo_37 (by decide) ?_
      have hr := Option.some.inj h
      subst hr
      exact V_end_z hX (Or.inr rfl) rfl dX10_mayDo_41
set_option maxHeartbeats 4000000 in
theorem con_m_lastsOf (N : Nat) (g : GS) (l1 : Int) (l2 : Int) (l3 : Int) (r : (Int × GS)) (h : m_lastsOf N g l1 l2 l3 = some r) : Con yX10_lastsOf cX10_lastsOf 5 (some .int) 4 78 Km (fun b => [.ref (b + 0), vI l1, vI l2, vI l3]) g (fun _ => some (vI r.1)) r.2 := by
  refine Con.of RX10 (by decide) rfl (fun b => Nat.le_of_ble_eq_true rfl) (fun x sz hX => ?_)
  have X := hX.1
  have J79 : ∀ (g : GS) (l3 : Int) (l4 : Int) (s0 : Int) (s1 : Int), m_lastsOf_j79 N g l3 l4 s0 s1 = some r → V x 5 Km 0 0 sz g 79 [(0, .ref (xb x + 0)), (3, vI l3), (4, vI l4)] [vI s0, vI s1, .ref (xb x + 24)] := by
    intro g l3 l4 s0 s1 h
    unfold m_lastsOf_j79 at h
    refine V_iast X (o := 24) (n := 6) rfl (by decide) dX10_lastsOf_79 h (fun g79 h => ?_)
    refine V_aload_n X dX10_lastsOf_80 0 rfl ?_
    refine getX10 X (o := 0) (j := 44) rfl (by decide) q1592 (fv_1 (i := 24) rfl rfl) dX10_lastsOf_81 ?_
    refine V_iconst X dX10_lastsOf_84 ?_
    refine V_iload_n X dX10_lastsOf_85 1 rfl ?_
    refine V_iast X (o := 24) (n := 6) rfl (by decide) dX10_lastsOf_86 h (fun g86 h => ?_)
    refine V_aload_n X dX10_lastsOf_87 0 rfl ?_
    refine getX10 X (o := 0) (j := 44) rfl (by decide) q1592 (fv_1 (i := 24) rfl rfl) dX10_lastsOf_88 ?_
    refine V_iconst X dX10_lastsOf_91 ?_
    refine V_iload X dX10_lastsOf_92 2 rfl ?_
    refine V_iast X (o := 24) (n := 6) rfl (by decide) dX10_lastsOf_94 h (fun g94 h => ?_)
    refine V_aload_n X dX10_lastsOf_95 0 rfl ?_
    obtain ⟨c96, hc96, h⟩ := bind_some_eq h
    refine V_callV (As := []) (rest := []) (s1 := [vI c96.1]) (o := 0) X (con_m_lastsNow N g94 c96 hc96) gwX10_lastsNow hdX10_lastsNow (by decide) rfl (by decide) rfl rfl rfl (Nat.le_of_ble_eq_true rfl) ⟨Nat.zero_le _, Nat.zero_le _⟩ dX10_lastsOf_96 rfl rfl ?_
    have hr := Option.some.inj h
    subst hr
    exact V_end_i hX rfl dX10_lastsOf_99
  have J78 : ∀ (g : GS) (l3 : Int) (l4 : Int) (s0 : Int), m_lastsOf_j78 N g l3 l4 s0 = some r → V x 5 Km 0 0 sz g 78 [(0, .ref (xb x + 0)), (3, vI l3), (4, vI l4)] [vI s0, .ref (xb x + 24)] := by
    intro g l3 l4 s0 h
    unfold m_lastsOf_j78 at h
    refine V_iconst X dX10_lastsOf_78 ?_
    exact V_sub [0, 1, 2] rfl (J79 _ _ _ _ _ h)
  unfold m_lastsOf at h
  show V x 5 Km 0 0 sz g 0 [(0, .ref (xb x + 0)), (1, vI l1), (2, vI l2), (3, vI l3)] []
  refine V_aload_n X dX10_lastsOf_0 0 rfl ?_
  refine getX10 X (o := 0) (j := 17) rfl (by decide) q1565 (fv_1 (i := 10) rfl rfl) dX10_lastsOf_1 ?_
  refine V_iconst X dX10_lastsOf_4 ?_
  refine V_iload_n X dX10_lastsOf_5 1 rfl ?_
  refine V_imul X dX10_lastsOf_6 ?_
  refine V_iconst X dX10_lastsOf_7 ?_
  refine V_iadd X dX10_lastsOf_8 ?_
  refine V_iald X (o := 10) (n := 60) rfl (by decide) dX10_lastsOf_9 h (fun v9 h => ?_)
  refine V_istore X dX10_lastsOf_10 (by decide) (L' := [(4, vI v9), (0, .ref (xb x + 0)), (1, vI l1), (2, vI l2), (3, vI l3)]) rfl ?_
  refine V_aload_n X dX10_lastsOf_12 1 rfl ?_
  refine getX10 X (o := 0) (j := 44) rfl (by decide) q1592 (fv_1 (i := 24) rfl rfl) dX10_lastsOf_13 ?_
  refine V_iconst X dX10_lastsOf_16 ?_
  refine V_aload_n X dX10_lastsOf_17 1 rfl ?_
  refine getX10 X (o := 0) (j := 17) rfl (by decide) q1565 (fv_1 (i := 10) rfl rfl) dX10_lastsOf_18 ?_
  refine V_iconst X dX10_lastsOf_21 ?_
  refine V_iload_n X dX10_lastsOf_22 2 rfl ?_
  refine V_imul X dX10_lastsOf_23 ?_
  refine V_iconst X dX10_lastsOf_24 ?_
  refine V_iadd X dX10_lastsOf_25 ?_
  refine V_iald X (o := 10) (n := 60) rfl (by decide) dX10_lastsOf_26 h (fun v26 h => ?_)
  refine V_iast X (o := 24) (n := 6) rfl (by decide) dX10_lastsOf_27 h (fun g27 h => ?_)
  refine V_aload_n X dX10_lastsOf_28 1 rfl ?_
  refine getX10 X (o := 0) (j := 44) rfl (by decide) q1592 (fv_1 (i := 24) rfl rfl) dX10_lastsOf_29 ?_
  refine V_iconst X dX10_lastsOf_32 ?_
  refine V_aload_n X dX10_lastsOf_33 1 rfl ?_
  refine getX10 X (o := 0) (j := 17) rfl (by decide) q1565 (fv_1 (i := 10) rfl rfl) dX10_lastsOf_34 ?_
  refine V_iconst X dX10_lastsOf_37 ?_
  refine V_iload_n X dX10_lastsOf_38 2 rfl ?_
  refine V_imul X dX10_lastsOf_39 ?_
  refine V_iconst X dX10_lastsOf_40 ?_
  refine V_iadd X dX10_lastsOf_41 ?_
  refine V_iald X (o := 10) (n := 60) rfl (by decide) dX10_lastsOf_42 h (fun v42 h => ?_)
  refine V_iast X (o := 24) (n := 6) rfl (by decide) dX10_lastsOf_43 h (fun g43 h => ?_)
  refine V_aload_n X dX10_lastsOf_44 1 rfl ?_
  refine getX10 X (o := 0) (j := 44) rfl (by decide) q1592 (fv_1 (i := 24) rfl rfl) dX10_lastsOf_45 ?_
  refine V_iconst X dX10_lastsOf_48 ?_
  refine V_aload_n X dX10_lastsOf_49 1 rfl ?_
  refine V_iload_n X dX10_lastsOf_50 3 rfl ?_
  obtain ⟨c51, hc51, h⟩ := bind_some_eq h
  refine V_callV (As := [vI l2]) (rest := [vI 2, .ref (xb x + 24)]) (s1 := [vI c51, vI 2, .ref (xb x + 24)]) (o := 0) X (con_m_strengthOf N g43 l2 c51 hc51) gwX10_strengthOf hdX10_strengthOf (by decide) rfl (by decide) rfl rfl rfl (Nat.le_of_ble_eq_true rfl) ⟨Nat.zero_le _, Nat.zero_le _⟩ dX10_lastsOf_51 rfl rfl ?_
  refine V_iast X (o := 24) (n := 6) rfl (by decide) dX10_lastsOf_54 h (fun g54 h => ?_)
  refine V_aload_n X dX10_lastsOf_55 1 rfl ?_
  refine getX10 X (o := 0) (j := 44) rfl (by decide) q1592 (fv_1 (i := 24) rfl rfl) dX10_lastsOf_56 ?_
  refine V_iconst X dX10_lastsOf_59 ?_
  refine V_iload X dX10_lastsOf_60 0 rfl ?_
  refine V_iconst X dX10_lastsOf_62 ?_
  refine V_icmp_ne (tgt := 78) X dX10_lastsOf_63 (by decide) h (fun h => ?_) (fun h => ?_)
  · exact V_sub [1, 4, 0] rfl (J78 _ _ _ _ h)
  · refine V_aload_n X dX10_lastsOf_66 1 rfl ?_
    refine V_iload_n X dX10_lastsOf_67 4 rfl ?_
    obtain ⟨c68, hc68, h⟩ := bind_some_eq h
    refine V_callV (As := [vI l3]) (rest := [vI 3, .ref (xb x + 24)]) (s1 := [vI c68, vI 3, .ref (xb x + 24)]) (o := 0) X (con_m_isRain g54 l3 c68 hc68) gwX10_isRain hdX10_isRain (by decide) rfl (by decide) rfl rfl rfl (Nat.le_of_ble_eq_true rfl) ⟨Nat.zero_le _, Nat.zero_le _⟩ dX10_lastsOf_68 rfl rfl ?_
    refine V_if_eq (tgt := 78) X dX10_lastsOf_71 (by decide) h (fun h => ?_) (fun h => ?_)
    · exact V_sub [1, 4, 0] rfl (J78 _ _ _ _ h)
    · refine V_iconst X dX10_lastsOf_74 ?_
      refine V_goto (tgt := 79) X dX10_lastsOf_75 (by decide) ?_
      exact V_sub [1, 4, 0] rfl (J79 _ _ _ _ _ h)
set_option maxHeartbeats 4000000 in
theorem con_m_beginOf (N : Nat) (g : GS) (l1 : Int) (l2 : Int) (r : Int) (h : m_beginOf N g l1 l2 = some r) : Con yX10_beginOf cX10_beginOf 5 (some .int) 1 12 Km (fun b => [.ref (b + 0), vI l1, vI l2]) g (fun _ => some (vI r)) g := by
  refine Con.of RX10 (by decide) rfl (fun b => Nat.le_of_ble_eq_true rfl) (fun x sz hX => ?_)
  have X := hX.1
  have LL56 : ∀ (l1 : Int) (n : Nat) (s : (Int × Int)) (e : Int), loopN (fun s => m_beginOf_b56 N g l1 s.1 s.2) n s = some e → (e = r) → V x 5 Km 0 0 sz g 56 [(0, .ref (xb x + 0)), (1, vI l1), (3, vI s.1), (4, vI s.2)] [] := by
    intro l1 n s e
    refine loop_walk (P := fun s => V x 5 Km 0 0 sz g 56 [(0, .ref (xb x + 0)), (1, vI l1), (3, vI s.1), (4, vI s.2)] []) (E := fun e => e = r) ?_ n s e
    clear e s n
    rintro ⟨l3, l4⟩ q56 h hc56 he56
    replace h : m_beginOf_b56 N g l1 l3 l4 = some q56 := h
    have J121 : ∀ (l4 : Int) (s0 : Int), m_beginOf_j121 N g l1 l4 s0 = some q56 → V x 5 Km 0 0 sz g 121 [(0, .ref (xb x + 0)), (1, vI l1), (4, vI l4)] [vI s0] := by
      intro l4 s0 h
      unfold m_beginOf_j121 at h
      refine V_istore_n X dX10_beginOf_121 (by decide) (L' := [(3, vI s0), (0, .ref (xb x + 0)), (1, vI l1), (4, vI l4)]) rfl ?_
      refine V_iinc X dX10_beginOf_122 3 rfl (by decide) (L' := [(4, vI (l4 + 1)), (3, vI s0), (0, .ref (xb x + 0)), (1, vI l1)]) rfl ?_
      refine V_goto (tgt := 56) X dX10_beginOf_125 (by decide) ?_
      exact V_sub [2, 3, 1, 0] rfl (hc56 _ (Option.some.inj h).symm)
    unfold m_beginOf_b56 at h
    show V x 5 Km 0 0 sz g 56 [(0, .ref (xb x + 0)), (1, vI l1), (3, vI l3), (4, vI l4)] []
    refine V_iload X dX10_beginOf_56 3 rfl ?_
    refine V_aload_n X dX10_beginOf_58 0 rfl ?_
    refine getX10 X (o := 0) (j := 33) rfl (by decide) q1581 (fv_0 rfl) dX10_beginOf_59 ?_
    refine V_icmp_ge (tgt := 128) X dX10_beginOf_62 (by decide) h (fun h => ?_) (fun h => ?_)
    · obtain ⟨e1, h, e1q⟩ := outR_some h
      replace h := h.trans (congrArg some (he56 _ e1q))
      refine V_iload_n X dX10_beginOf_128 2 rfl ?_
      have hr := Option.some.inj h
      subst hr
      exact V_end_i hX rfl dX10_beginOf_129
    · refine V_aload_n X dX10_beginOf_65 0 rfl ?_
      refine getX10 X (o := 0) (j := 17) rfl (by decide) q1565 (fv_1 (i := 10) rfl rfl) dX10_beginOf_66 ?_
      refine V_iconst X dX10_beginOf_69 ?_
      refine V_iload_n X dX10_beginOf_70 1 rfl ?_
      refine V_imul X dX10_beginOf_71 ?_
      refine V_iconst X dX10_beginOf_72 ?_
      refine V_iadd X dX10_beginOf_73 ?_
      refine V_iald X (o := 10) (n := 60) rfl (by decide) dX10_beginOf_74 h (fun v74 h => ?_)
      refine V_iload X dX10_beginOf_75 3 rfl ?_
      refine V_ishr X dX10_beginOf_77 ?_
      refine V_iconst X dX10_beginOf_78 ?_
      refine V_iand X dX10_beginOf_79 ?_
      refine V_if_ne (tgt := 86) X dX10_beginOf_80 (by decide) h (fun h => ?_) (fun h => ?_)
      · refine V_aload_n X dX10_beginOf_86 0 rfl ?_
        refine getX10 X (o := 0) (j := 54) rfl (by decide) q1602 (fv_1 (i := 32) rfl rfl) dX10_beginOf_87 ?_
        refine V_iload X dX10_beginOf_90 3 rfl ?_
        refine V_iald X (o := 32) (n := 12) rfl (by decide) dX10_beginOf_92 h (fun v92 h => ?_)
        refine V_iconst X dX10_beginOf_93 ?_
        refine V_icmp_ne (tgt := 99) X dX10_beginOf_94 (by decide) h (fun h => ?_) (fun h => ?_)
        · refine V_aload_n X dX10_beginOf_99 0 rfl ?_
          refine getX10 X (o := 0) (j := 54) rfl (by decide) q1602 (fv_1 (i := 32) rfl rfl) dX10_beginOf_100 ?_
          refine V_iload X dX10_beginOf_103 3 rfl ?_
          refine V_iald X (o := 32) (n := 12) rfl (by decide) dX10_beginOf_105 h (fun v105 h => ?_)
          refine V_iload_n X dX10_beginOf_106 2 rfl ?_
          refine V_icmp_le (tgt := 120) X dX10_beginOf_107 (by decide) h (fun h => ?_) (fun h => ?_)
          · refine V_iload_n X dX10_beginOf_120 2 rfl ?_
            exact V_sub [0, 1, 3] rfl (J121 _ _ h)
          · refine V_aload_n X dX10_beginOf_110 0 rfl ?_
            refine getX10 X (o := 0) (j := 54) rfl (by decide) q1602 (fv_1 (i := 32) rfl rfl) dX10_beginOf_111 ?_
            refine V_iload X dX10_beginOf_114 3 rfl ?_
            refine V_iald X (o := 32) (n := 12) rfl (by decide) dX10_beginOf_116 h (fun v116 h => ?_)
            refine V_goto (tgt := 121) X dX10_beginOf_117 (by decide) ?_
            exact V_sub [0, 1, 3] rfl (J121 _ _ h)
        · obtain ⟨e2, h, e2q⟩ := outR_some h
          replace h := h.trans (congrArg some (he56 _ e2q))
          refine V_iconst X dX10_beginOf_97 ?_
          have hr := Option.some.inj h
          subst hr
          exact V_end_i hX rfl dX10_beginOf_98
      · refine V_goto (tgt := 122) X dX10_beginOf_83 (by decide) ?_
        refine V_iinc X dX10_beginOf_122 3 rfl (by decide) (L' := [(4, vI (l4 + 1)), (0, .ref (xb x + 0)), (1, vI l1), (3, vI l3)]) rfl ?_
        refine V_goto (tgt := 56) X dX10_beginOf_125 (by decide) ?_
        exact V_sub [1, 2, 3, 0] rfl (hc56 _ (Option.some.inj h).symm)
  have LL5 : ∀ (l1 : Int) (l2 : Int) (n : Nat) (s : (Int × Int)) (e : (Int)), loopN (fun s => m_beginOf_b5 N g l1 l2 s.1 s.2) n s = some e → V x 5 Km 0 0 sz g 53 [(0, .ref (xb x + 0)), (1, vI l1), (3, vI e)] [] → V x 5 Km 0 0 sz g 5 [(0, .ref (xb x + 0)), (1, vI l1), (2, vI l2), (3, vI s.1), (4, vI s.2)] [] := by
    intro l1 l2 n s e
    refine loop_walk (P := fun s => V x 5 Km 0 0 sz g 5 [(0, .ref (xb x + 0)), (1, vI l1), (2, vI l2), (3, vI s.1), (4, vI s.2)] []) (E := fun e => V x 5 Km 0 0 sz g 53 [(0, .ref (xb x + 0)), (1, vI l1), (3, vI e)] []) ?_ n s e
    clear e s n
    rintro ⟨l3, l4⟩ q5 h hc5 he5
    replace h : m_beginOf_b5 N g l1 l2 l3 l4 = some q5 := h
    have J46 : ∀ (l4 : Int) (s0 : Int), m_beginOf_j46 N g l1 l2 l4 s0 = some q5 → V x 5 Km 0 0 sz g 46 [(0, .ref (xb x + 0)), (1, vI l1), (2, vI l2), (4, vI l4)] [vI s0] := by
      intro l4 s0 h
      unfold m_beginOf_j46 at h
      refine V_istore_n X dX10_beginOf_46 (by decide) (L' := [(3, vI s0), (0, .ref (xb x + 0)), (1, vI l1), (2, vI l2), (4, vI l4)]) rfl ?_
      refine V_iinc X dX10_beginOf_47 4 rfl (by decide) (L' := [(4, vI (l4 + 1)), (3, vI s0), (0, .ref (xb x + 0)), (1, vI l1), (2, vI l2)]) rfl ?_
      refine V_goto (tgt := 5) X dX10_beginOf_50 (by decide) ?_
      exact V_sub [2, 3, 4, 1, 0] rfl (hc5 _ (Option.some.inj h).symm)
    have J45 : ∀ (l3 : Int) (l4 : Int), m_beginOf_j45 N g l1 l2 l3 l4 = some q5 → V x 5 Km 0 0 sz g 45 [(0, .ref (xb x + 0)), (1, vI l1), (2, vI l2), (3, vI l3), (4, vI l4)] [] := by
      intro l3 l4 h
      unfold m_beginOf_j45 at h
      refine V_iload_n X dX10_beginOf_45 3 rfl ?_
      exact V_sub [0, 1, 2, 4] rfl (J46 _ _ h)
    unfold m_beginOf_b5 at h
    show V x 5 Km 0 0 sz g 5 [(0, .ref (xb x + 0)), (1, vI l1), (2, vI l2), (3, vI l3), (4, vI l4)] []
    refine V_iload X dX10_beginOf_5 4 rfl ?_
    refine V_aload_n X dX10_beginOf_7 0 rfl ?_
    refine getX10 X (o := 0) (j := 32) rfl (by decide) q1580 (fv_0 rfl) dX10_beginOf_8 ?_
    refine V_icmp_ge (tgt := 53) X dX10_beginOf_11 (by decide) h (fun h => ?_) (fun h => ?_)
    · exact V_sub [0, 1, 3] rfl (he5 _ (Option.some.inj h).symm)
    · refine V_iload_n X dX10_beginOf_14 2 rfl ?_
      refine V_iload X dX10_beginOf_15 4 rfl ?_
      refine V_ishr X dX10_beginOf_17 ?_
      refine V_iconst X dX10_beginOf_18 ?_
      refine V_iand X dX10_beginOf_19 ?_
      refine V_iconst X dX10_beginOf_20 ?_
      refine V_icmp_ne (tgt := 45) X dX10_beginOf_21 (by decide) h (fun h => ?_) (fun h => ?_)
      · exact V_sub [0, 1, 2, 3, 4] rfl (J45 _ _ h)
      · refine V_aload_n X dX10_beginOf_24 0 rfl ?_
        refine getX10 X (o := 0) (j := 53) rfl (by decide) q1601 (fv_1 (i := 31) rfl rfl) dX10_beginOf_25 ?_
        refine V_iload X dX10_beginOf_28 4 rfl ?_
        refine V_iald X (o := 31) (n := 4) rfl (by decide) dX10_beginOf_30 h (fun v30 h => ?_)
        refine V_iload_n X dX10_beginOf_31 3 rfl ?_
        refine V_icmp_le (tgt := 45) X dX10_beginOf_32 (by decide) h (fun h => ?_) (fun h => ?_)
        · exact V_sub [0, 1, 2, 3, 4] rfl (J45 _ _ h)
        · refine V_aload_n X dX10_beginOf_35 0 rfl ?_
          refine getX10 X (o := 0) (j := 53) rfl (by decide) q1601 (fv_1 (i := 31) rfl rfl) dX10_beginOf_36 ?_
          refine V_iload X dX10_beginOf_39 4 rfl ?_
          refine V_iald X (o := 31) (n := 4) rfl (by decide) dX10_beginOf_41 h (fun v41 h => ?_)
          refine V_goto (tgt := 46) X dX10_beginOf_42 (by decide) ?_
          exact V_sub [0, 1, 2, 4] rfl (J46 _ _ h)
  unfold m_beginOf at h
  show V x 5 Km 0 0 sz g 0 [(0, .ref (xb x + 0)), (1, vI l1), (2, vI l2)] []
  refine V_iconst X dX10_beginOf_0 ?_
  refine V_istore_n X dX10_beginOf_1 (by decide) (L' := [(3, vI 0), (0, .ref (xb x + 0)), (1, vI l1), (2, vI l2)]) rfl ?_
  refine V_iconst X dX10_beginOf_2 ?_
  refine V_istore X dX10_beginOf_3 (by decide) (L' := [(4, vI 0), (3, vI 0), (0, .ref (xb x + 0)), (1, vI l1), (2, vI l2)]) rfl ?_
  obtain ⟨t3, t3q, h⟩ := bind_some_eq h
  refine V_sub [2, 3, 4, 1, 0] rfl (LL5 l1 l2 N (0, 0) _ t3q ?_)
  refine V_iconst X dX10_beginOf_53 ?_
  refine V_istore X dX10_beginOf_54 (by decide) (L' := [(4, vI 0), (0, .ref (xb x + 0)), (1, vI l1), (3, vI t3)]) rfl ?_
  exact V_sub [1, 2, 3, 0] rfl (LL56 l1 N (t3, 0) _ h rfl)
set_option maxHeartbeats 4000000 in
theorem con_m_rainIn (N : Nat) (g : GS) (l1 : Int) (l2 : Int) (r : Int) (h : m_rainIn N g l1 l2 = some r) : Con yX10_rainIn cX10_rainIn 5 (some .int) 2 33 Km (fun b => [.ref (b + 0), vI l1, vI l2]) g (fun _ => some (vI r)) g := by
  refine Con.of RX10 (by decide) rfl (fun b => Nat.le_of_ble_eq_true rfl) (fun x sz hX => ?_)
  have X := hX.1
  have LL5 : ∀ (l2 : Int) (n : Nat) (s : (Int × Int)) (e : Int), loopN (fun s => m_rainIn_b5 N g l2 s.1 s.2) n s = some e → (e = r) → V x 5 Km 0 0 sz g 5 [(0, .ref (xb x + 0)), (2, vI l2), (3, vI s.1), (4, vI s.2)] [] := by
    intro l2 n s e
    refine loop_walk (P := fun s => V x 5 Km 0 0 sz g 5 [(0, .ref (xb x + 0)), (2, vI l2), (3, vI s.1), (4, vI s.2)] []) (E := fun e => e = r) ?_ n s e
    clear e s n
    rintro ⟨l3, l4⟩ q5 h hc5 he5
    replace h : m_rainIn_b5 N g l2 l3 l4 = some q5 := h
    have J26 : ∀ (l4 : Int) (s0 : Int) (s1 : Int), m_rainIn_j26 N g l2 l4 s0 s1 = some q5 → V x 5 Km 0 0 sz g 26 [(0, .ref (xb x + 0)), (2, vI l2), (4, vI l4)] [vI s0, vI s1] := by
      intro l4 s0 s1 h
      unfold m_rainIn_j26 at h
      refine V_iadd X dX10_rainIn_26 ?_
      refine V_istore_n X dX10_rainIn_27 (by decide) (L' := [(3, vI (s1 + s0)), (0, .ref (xb x + 0)), (2, vI l2), (4, vI l4)]) rfl ?_
      refine V_iinc X dX10_rainIn_28 3 rfl (by decide) (L' := [(4, vI (l4 + 1)), (3, vI (s1 + s0)), (0, .ref (xb x + 0)), (2, vI l2)]) rfl ?_
      refine V_goto (tgt := 5) X dX10_rainIn_31 (by decide) ?_
      exact V_sub [2, 3, 1, 0] rfl (hc5 _ (Option.some.inj h).symm)
    unfold m_rainIn_b5 at h
    show V x 5 Km 0 0 sz g 5 [(0, .ref (xb x + 0)), (2, vI l2), (3, vI l3), (4, vI l4)] []
    refine V_iload X dX10_rainIn_5 3 rfl ?_
    refine V_iload_n X dX10_rainIn_7 1 rfl ?_
    refine V_icmp_ge (tgt := 34) X dX10_rainIn_8 (by decide) h (fun h => ?_) (fun h => ?_)
    · obtain ⟨e1, h, e1q⟩ := outR_some h
      replace h := h.trans (congrArg some (he5 _ e1q))
      refine V_iload_n X dX10_rainIn_34 2 rfl ?_
      have hr := Option.some.inj h
      subst hr
      exact V_end_i hX rfl dX10_rainIn_35
    · refine V_iload_n X dX10_rainIn_11 2 rfl ?_
      refine V_aload_n X dX10_rainIn_12 0 rfl ?_
      refine V_iload X dX10_rainIn_13 3 rfl ?_
      obtain ⟨c15, hc15, h⟩ := bind_some_eq h
      refine V_callV (As := [vI l4]) (rest := [vI l3]) (s1 := [vI c15, vI l3]) (o := 0) X (con_m_isRain g l4 c15 hc15) gwX10_isRain hdX10_isRain (by decide) rfl (by decide) rfl rfl rfl (Nat.le_of_ble_eq_true rfl) ⟨Nat.zero_le _, Nat.zero_le _⟩ dX10_rainIn_15 rfl rfl ?_
      refine V_if_eq (tgt := 25) X dX10_rainIn_18 (by decide) h (fun h => ?_) (fun h => ?_)
      · refine V_iconst X dX10_rainIn_25 ?_
        exact V_sub [0, 1, 3] rfl (J26 _ _ _ h)
      · refine V_iconst X dX10_rainIn_21 ?_
        refine V_goto (tgt := 26) X dX10_rainIn_22 (by decide) ?_
        exact V_sub [0, 1, 3] rfl (J26 _ _ _ h)
  unfold m_rainIn at h
  show V x 5 Km 0 0 sz g 0 [(0, .ref (xb x + 0)), (1, vI l1), (2, vI l2)] []
  refine V_iconst X dX10_rainIn_0 ?_
  refine V_istore_n X dX10_rainIn_1 (by decide) (L' := [(3, vI 0), (0, .ref (xb x + 0)), (1, vI l1), (2, vI l2)]) rfl ?_
  refine V_iload_n X dX10_rainIn_2 2 rfl ?_
  refine V_istore X dX10_rainIn_3 (by decide) (L' := [(4, vI l1), (3, vI 0), (0, .ref (xb x + 0)), (1, vI l1), (2, vI l2)]) rfl ?_
  exact V_sub [2, 4, 1, 0] rfl (LL5 l2 N (0, l1) _ h rfl)
set_option maxHeartbeats 4000000 in
theorem con_m_draws (g : GS) (r : (Int × GS)) (h : m_draws g = some r) : Con yX10_draws cX10_draws 1 (some .int) 1 12 Km (fun b => [.ref (b + 0)]) g (fun _ => some (vI r.1)) r.2 := by
  refine Con.of RX10 (by decide) rfl (fun b => Nat.le_of_ble_eq_true rfl) (fun x sz hX => ?_)
  have X := hX.1
  unfold m_draws at h
  show V x 1 Km 0 0 sz g 0 [(0, .ref (xb x + 0))] []
  refine V_aload_n X dX10_draws_0 0 rfl ?_
  refine V_aload_n X dX10_draws_1 0 rfl ?_
  refine getX10 X (o := 0) (j := 68) rfl (by decide) q1616 (fv_0 rfl) dX10_draws_2 ?_
  refine V_ldcw X q2007 (n := 1103515245) (by decide) dX10_draws_5 ?_
  refine V_imul X dX10_draws_8 ?_
  refine V_sipush X dX10_draws_9 (by decide) ?_
  refine V_iadd X dX10_draws_12 ?_
  refine putX10 X (o := 0) (j := 68) (a := (((gI g 968 0) * 1103515245) + 12345)) rfl (by decide) rfl rfl rfl q1616 dX10_draws_13 ?_
  refine V_aload_n X dX10_draws_16 0 rfl ?_
  refine getX10 X (o := 0) (j := 68) rfl (by decide) q1616 (fv_0 rfl) dX10_draws_17 ?_
  refine V_bipush X dX10_draws_20 (by decide) ?_
  refine V_ishr X dX10_draws_22 ?_
  refine V_sipush X dX10_draws_23 (by decide) ?_
  refine V_iand X dX10_draws_26 ?_
  refine V_bipush X dX10_draws_27 (by decide) ?_
  refine V_iremK X dX10_draws_29 (by decide) ?_
  have hr := Option.some.inj h
  subst hr
  exact V_end_i hX rfl dX10_draws_30
set_option maxHeartbeats 4000000 in
theorem con_m_goes (N : Nat) (g : GS) (l1 : Int) (r : (Int × GS)) (h : m_goes N g l1 = some r) : Con yX10_goes cX10_goes 9 (some .int) 5 102 Km (fun b => [.ref (b + 0), vI l1]) g (fun _ => some (vI r.1)) r.2 := by
  refine Con.of RX10 (by decide) rfl (fun b => Nat.le_of_ble_eq_true rfl) (fun x sz hX => ?_)
  have X := hX.1
  have LL64 : ∀ (l1 : Int) (n : Nat) (s : (GS × Int × Int)) (e : (Int × GS)), loopN (fun s => m_goes_b64 N l1 s.1 s.2.1 s.2.2) n s = some e → (e = r) → V x 9 Km 0 0 sz s.1 64 [(0, .ref (xb x + 0)), (1, vI l1), (2, vI s.2.1), (3, vI s.2.2)] [] := by
    intro l1 n s e
    refine loop_walk (P := fun s => V x 9 Km 0 0 sz s.1 64 [(0, .ref (xb x + 0)), (1, vI l1), (2, vI s.2.1), (3, vI s.2.2)] []) (E := fun e => e = r) ?_ n s e
    clear e s n
    rintro ⟨g, l2, l3⟩ q64 h hc64 he64
    replace h : m_goes_b64 N l1 g l2 l3 = some q64 := h
    have LL245 : ∀ (l2 : Int) (l3 : Int) (l4 : Int) (l5 : Int) (l6 : Int) (l7 : Int) (n : Nat) (s : (GS × Int)) (e : (GS)), loopN (fun s => m_goes_b245 N l1 l2 l3 l4 l5 l6 l7 s.1 s.2) n s = some e → V x 9 Km 0 0 sz e 337 [(0, .ref (xb x + 0)), (1, vI l1), (2, vI l2), (3, vI l3)] [] → V x 9 Km 0 0 sz s.1 245 [(0, .ref (xb x + 0)), (1, vI l1), (2, vI l2), (3, vI l3), (4, vI l4), (5, vI l5), (6, vI l6), (7, vI l7), (8, vI s.2)] [] := by
      intro l2 l3 l4 l5 l6 l7 n s e
      refine loop_walk (P := fun s => V x 9 Km 0 0 sz s.1 245 [(0, .ref (xb x + 0)), (1, vI l1), (2, vI l2), (3, vI l3), (4, vI l4), (5, vI l5), (6, vI l6), (7, vI l7), (8, vI s.2)] []) (E := fun e => V x 9 Km 0 0 sz e 337 [(0, .ref (xb x + 0)), (1, vI l1), (2, vI l2), (3, vI l3)] []) ?_ n s e
      clear e s n
      rintro ⟨g, l8⟩ q245 h hc245 he245
      replace h : m_goes_b245 N l1 l2 l3 l4 l5 l6 l7 g l8 = some q245 := h
      have J329 : ∀ (g : GS) (l8 : Int) (s0 : Int) (s1 : Int) (s2 : Int), m_goes_j329 N g l1 l2 l3 l4 l5 l6 l7 l8 s0 s1 s2 = some q245 → V x 9 Km 0 0 sz g 329 [(0, .ref (xb x + 0)), (1, vI l1), (2, vI l2), (3, vI l3), (4, vI l4), (5, vI l5), (6, vI l6), (7, vI l7), (8, vI l8)] [vI s0, vI s1, vI s2, .ref (xb x + 33)] := by
        intro g l8 s0 s1 s2 h
        unfold m_goes_j329 at h
        refine V_iadd X dX10_goes_329 ?_
        refine V_iast X (o := 33) (n := 4) rfl (by decide) dX10_goes_330 h (fun g330 h => ?_)
        refine V_iinc X dX10_goes_331 8 rfl (by decide) (L' := [(8, vI (l8 + 1)), (0, .ref (xb x + 0)), (1, vI l1), (2, vI l2), (3, vI l3), (4, vI l4), (5, vI l5), (6, vI l6), (7, vI l7)]) rfl ?_
        refine V_goto (tgt := 245) X dX10_goes_334 (by decide) ?_
        exact V_sub [1, 2, 3, 4, 5, 6, 7, 8, 0] rfl (hc245 _ (Option.some.inj h).symm)
      unfold m_goes_b245 at h
      show V x 9 Km 0 0 sz g 245 [(0, .ref (xb x + 0)), (1, vI l1), (2, vI l2), (3, vI l3), (4, vI l4), (5, vI l5), (6, vI l6), (7, vI l7), (8, vI l8)] []
      refine V_iload X dX10_goes_245 8 rfl ?_
      refine V_aload_n X dX10_goes_247 0 rfl ?_
      refine getX10 X (o := 0) (j := 32) rfl (by decide) q1580 (fv_0 rfl) dX10_goes_248 ?_
      refine V_icmp_ge (tgt := 337) X dX10_goes_251 (by decide) h (fun h => ?_) (fun h => ?_)
      · exact V_sub [0, 1, 2, 3] rfl (he245 _ (Option.some.inj h).symm)
      · refine V_iload X dX10_goes_254 5 rfl ?_
        refine V_iload X dX10_goes_256 8 rfl ?_
        refine V_ishr X dX10_goes_258 ?_
        refine V_iconst X dX10_goes_259 ?_
        refine V_iand X dX10_goes_260 ?_
        refine V_if_ne (tgt := 267) X dX10_goes_261 (by decide) h (fun h => ?_) (fun h => ?_)
        · refine V_aload_n X dX10_goes_267 0 rfl ?_
          refine getX10 X (o := 0) (j := 53) rfl (by decide) q1601 (fv_1 (i := 31) rfl rfl) dX10_goes_268 ?_
          refine V_iload X dX10_goes_271 8 rfl ?_
          refine V_iload X dX10_goes_273 6 rfl ?_
          refine V_iload X dX10_goes_275 7 rfl ?_
          refine V_iadd X dX10_goes_277 ?_
          refine V_iast X (o := 31) (n := 4) rfl (by decide) dX10_goes_278 h (fun g278 h => ?_)
          refine V_aload_n X dX10_goes_279 0 rfl ?_
          refine getX10 X (o := 0) (j := 56) rfl (by decide) q1604 (fv_1 (i := 34) rfl rfl) dX10_goes_280 ?_
          refine V_iload X dX10_goes_283 8 rfl ?_
          refine V_dup2 X dX10_goes_285 rfl rfl ?_
          refine V_iald X (o := 34) (n := 4) rfl (by decide) dX10_goes_286 h (fun v286 h => ?_)
          refine V_iload X dX10_goes_287 7 rfl ?_
          refine V_iadd X dX10_goes_289 ?_
          refine V_iast X (o := 34) (n := 4) rfl (by decide) dX10_goes_290 h (fun g290 h => ?_)
          refine V_aload_n X dX10_goes_291 0 rfl ?_
          refine getX10 X (o := 0) (j := 55) rfl (by decide) q1603 (fv_1 (i := 33) rfl rfl) dX10_goes_292 ?_
          refine V_iload X dX10_goes_295 8 rfl ?_
          refine V_dup2 X dX10_goes_297 rfl rfl ?_
          refine V_iald X (o := 33) (n := 4) rfl (by decide) dX10_goes_298 h (fun v298 h => ?_)
          refine V_aload_n X dX10_goes_299 0 rfl ?_
          refine getX10 X (o := 0) (j := 17) rfl (by decide) q1565 (fv_1 (i := 10) rfl rfl) dX10_goes_300 ?_
          refine V_iconst X dX10_goes_303 ?_
          refine V_iload X dX10_goes_304 4 rfl ?_
          refine V_imul X dX10_goes_306 ?_
          refine V_iconst X dX10_goes_307 ?_
          refine V_iadd X dX10_goes_308 ?_
          refine V_iald X (o := 10) (n := 60) rfl (by decide) dX10_goes_309 h (fun v309 h => ?_)
          refine V_iconst X dX10_goes_310 ?_
          refine V_icmp_ne (tgt := 328) X dX10_goes_311 (by decide) h (fun h => ?_) (fun h => ?_)
          · refine V_iconst X dX10_goes_328 ?_
            exact V_sub [0, 1, 2, 3, 4, 5, 6, 7, 8] rfl (J329 _ _ _ _ _ h)
          · refine V_aload_n X dX10_goes_314 0 rfl ?_
            refine V_iload X dX10_goes_315 6 rfl ?_
            refine V_iload X dX10_goes_317 6 rfl ?_
            refine V_iload X dX10_goes_319 7 rfl ?_
            refine V_iadd X dX10_goes_321 ?_
            obtain ⟨c322, hc322, h⟩ := bind_some_eq h
            refine V_callV (As := [vI l6, vI (l6 + l7)]) (rest := [vI v298, vI l8, .ref (xb x + 33)]) (s1 := [vI c322, vI v298, vI l8, .ref (xb x + 33)]) (o := 0) X (con_m_rainIn N g290 l6 (l6 + l7) c322 hc322) gwX10_rainIn hdX10_rainIn (by decide) rfl (by decide) rfl rfl rfl (Nat.le_of_ble_eq_true rfl) ⟨Nat.zero_le _, Nat.zero_le _⟩ dX10_goes_322 rfl rfl ?_
            refine V_goto (tgt := 329) X dX10_goes_325 (by decide) ?_
            exact V_sub [0, 1, 2, 3, 4, 5, 6, 7, 8] rfl (J329 _ _ _ _ _ h)
        · refine V_goto (tgt := 331) X dX10_goes_264 (by decide) ?_
          refine V_iinc X dX10_goes_331 8 rfl (by decide) (L' := [(8, vI (l8 + 1)), (0, .ref (xb x + 0)), (1, vI l1), (2, vI l2), (3, vI l3), (4, vI l4), (5, vI l5), (6, vI l6), (7, vI l7)]) rfl ?_
          refine V_goto (tgt := 245) X dX10_goes_334 (by decide) ?_
          exact V_sub [1, 2, 3, 4, 5, 6, 7, 8, 0] rfl (hc245 _ (Option.some.inj h).symm)
    have J241 : ∀ (g : GS) (l3 : Int) (l4 : Int) (l5 : Int) (l6 : Int) (l7 : Int) (s0 : Int), m_goes_j241 N g l1 l3 l4 l5 l6 l7 s0 = some q64 → V x 9 Km 0 0 sz g 241 [(0, .ref (xb x + 0)), (1, vI l1), (3, vI l3), (4, vI l4), (5, vI l5), (6, vI l6), (7, vI l7)] [vI s0] := by
      intro g l3 l4 l5 l6 l7 s0 h
      unfold m_goes_j241 at h
      refine V_istore_n X dX10_goes_241 (by decide) (L' := [(2, vI s0), (0, .ref (xb x + 0)), (1, vI l1), (3, vI l3), (4, vI l4), (5, vI l5), (6, vI l6), (7, vI l7)]) rfl ?_
      refine V_iconst X dX10_goes_242 ?_
      refine V_istore X dX10_goes_243 (by decide) (L' := [(8, vI 0), (2, vI s0), (0, .ref (xb x + 0)), (1, vI l1), (3, vI l3), (4, vI l4), (5, vI l5), (6, vI l6), (7, vI l7)]) rfl ?_
      obtain ⟨t1, t1q, h⟩ := bind_some_eq h
      refine V_sub [2, 3, 1, 4, 5, 6, 7, 8, 0] rfl (LL245 s0 l3 l4 l5 l6 l7 N (g, 0) _ t1q ?_)
      refine V_iinc X dX10_goes_337 3 rfl (by decide) (L' := [(3, vI (l3 + 1)), (0, .ref (xb x + 0)), (1, vI l1), (2, vI s0)]) rfl ?_
      refine V_goto (tgt := 64) X dX10_goes_340 (by decide) ?_
      exact V_sub [1, 2, 3, 0] rfl (hc64 _ (Option.some.inj h).symm)
    have J188 : ∀ (g : GS) (l2 : Int) (l3 : Int) (l4 : Int) (l5 : Int) (l6 : Int) (l7 : Int), m_goes_j188 N g l1 l2 l3 l4 l5 l6 l7 = some q64 → V x 9 Km 0 0 sz g 188 [(0, .ref (xb x + 0)), (1, vI l1), (2, vI l2), (3, vI l3), (4, vI l4), (5, vI l5), (6, vI l6), (7, vI l7)] [] := by
      intro g l2 l3 l4 l5 l6 l7 h
      unfold m_goes_j188 at h
      refine V_iload X dX10_goes_188 7 rfl ?_
      refine V_aload_n X dX10_goes_190 0 rfl ?_
      refine getX10 X (o := 0) (j := 57) rfl (by decide) q1605 (fv_1 (i := 35) rfl rfl) dX10_goes_191 ?_
      refine V_iload X dX10_goes_194 4 rfl ?_
      refine V_iald X (o := 35) (n := 12) rfl (by decide) dX10_goes_196 h (fun v196 h => ?_)
      refine V_iadd X dX10_goes_197 ?_
      refine V_istore X dX10_goes_198 (by decide) (L' := [(7, vI (l7 + v196)), (0, .ref (xb x + 0)), (1, vI l1), (2, vI l2), (3, vI l3), (4, vI l4), (5, vI l5), (6, vI l6)]) rfl ?_
      refine V_aload_n X dX10_goes_200 1 rfl ?_
      refine getX10 X (o := 0) (j := 52) rfl (by decide) q1600 (fv_1 (i := 30) rfl rfl) dX10_goes_201 ?_
      refine V_iload_n X dX10_goes_204 4 rfl ?_
      refine V_iload X dX10_goes_205 7 rfl ?_
      refine V_iload X dX10_goes_207 0 rfl ?_
      refine V_iadd X dX10_goes_209 ?_
      refine V_iast X (o := 30) (n := 12) rfl (by decide) dX10_goes_210 h (fun g210 h => ?_)
      refine V_aload_n X dX10_goes_211 1 rfl ?_
      refine getX10 X (o := 0) (j := 54) rfl (by decide) q1602 (fv_1 (i := 32) rfl rfl) dX10_goes_212 ?_
      refine V_iload X dX10_goes_215 5 rfl ?_
      refine V_iload X dX10_goes_217 7 rfl ?_
      refine V_iload X dX10_goes_219 0 rfl ?_
      refine V_iadd X dX10_goes_221 ?_
      refine V_iast X (o := 32) (n := 12) rfl (by decide) dX10_goes_222 h (fun g222 h => ?_)
      refine V_iload X dX10_goes_223 7 rfl ?_
      refine V_iload X dX10_goes_225 0 rfl ?_
      refine V_iadd X dX10_goes_227 ?_
      refine V_iload_n X dX10_goes_228 3 rfl ?_
      refine V_icmp_le (tgt := 240) X dX10_goes_229 (by decide) h (fun h => ?_) (fun h => ?_)
      · refine V_iload_n X dX10_goes_240 3 rfl ?_
        exact V_sub [1, 2, 4, 5, 6, 7, 0] rfl (J241 _ _ _ _ _ _ _ h)
      · refine V_iload X dX10_goes_232 7 rfl ?_
        refine V_iload X dX10_goes_234 0 rfl ?_
        refine V_iadd X dX10_goes_236 ?_
        refine V_goto (tgt := 241) X dX10_goes_237 (by decide) ?_
        exact V_sub [1, 2, 4, 5, 6, 7, 0] rfl (J241 _ _ _ _ _ _ _ h)
    have J117 : ∀ (g : GS) (l2 : Int) (l3 : Int) (l4 : Int) (l5 : Int) (s0 : Int), m_goes_j117 N g l1 l2 l3 l4 l5 s0 = some q64 → V x 9 Km 0 0 sz g 117 [(0, .ref (xb x + 0)), (1, vI l1), (2, vI l2), (3, vI l3), (4, vI l4), (5, vI l5)] [vI s0] := by
      intro g l2 l3 l4 l5 s0 h
      unfold m_goes_j117 at h
      refine V_istore X dX10_goes_117 (by decide) (L' := [(6, vI s0), (0, .ref (xb x + 0)), (1, vI l1), (2, vI l2), (3, vI l3), (4, vI l4), (5, vI l5)]) rfl ?_
      refine V_aload_n X dX10_goes_119 1 rfl ?_
      refine getX10 X (o := 0) (j := 51) rfl (by decide) q1599 (fv_1 (i := 29) rfl rfl) dX10_goes_120 ?_
      refine V_iload_n X dX10_goes_123 4 rfl ?_
      refine V_iload X dX10_goes_124 0 rfl ?_
      refine V_iast X (o := 29) (n := 12) rfl (by decide) dX10_goes_126 h (fun g126 h => ?_)
      refine V_aload_n X dX10_goes_127 1 rfl ?_
      refine getX10 X (o := 0) (j := 52) rfl (by decide) q1600 (fv_1 (i := 30) rfl rfl) dX10_goes_128 ?_
      refine V_iload_n X dX10_goes_131 4 rfl ?_
      refine V_iconst X dX10_goes_132 ?_
      refine V_iast X (o := 30) (n := 12) rfl (by decide) dX10_goes_133 h (fun g133 h => ?_)
      refine V_iload X dX10_goes_134 0 rfl ?_
      refine V_iconst X dX10_goes_136 ?_
      refine V_icmp_ne (tgt := 143) X dX10_goes_137 (by decide) h (fun h => ?_) (fun h => ?_)
      · refine V_aload_n X dX10_goes_143 1 rfl ?_
        refine V_iload X dX10_goes_144 5 rfl ?_
        refine V_iload X dX10_goes_146 6 rfl ?_
        refine V_iload X dX10_goes_148 0 rfl ?_
        obtain ⟨c150, hc150, h⟩ := bind_some_eq h
        refine V_callV (As := [vI l4, vI l5, vI s0]) (rest := []) (s1 := [vI c150.1]) (o := 0) X (con_m_lastsOf N g133 l4 l5 s0 c150 hc150) gwX10_lastsOf hdX10_lastsOf (by decide) rfl (by decide) rfl rfl rfl (Nat.le_of_ble_eq_true rfl) ⟨Nat.zero_le _, Nat.zero_le _⟩ dX10_goes_150 rfl rfl ?_
        refine V_istore X dX10_goes_153 (by decide) (L' := [(7, vI c150.1), (6, vI s0), (0, .ref (xb x + 0)), (1, vI l1), (2, vI l2), (3, vI l3), (4, vI l4), (5, vI l5)]) rfl ?_
        refine V_iload_n X dX10_goes_155 3 rfl ?_
        refine V_if_eq (tgt := 188) X dX10_goes_156 (by decide) h (fun h => ?_) (fun h => ?_)
        · exact V_sub [2, 3, 4, 5, 6, 7, 1, 0] rfl (J188 _ _ _ _ _ _ _ h)
        · refine V_aload_n X dX10_goes_159 2 rfl ?_
          obtain ⟨c160, hc160, h⟩ := bind_some_eq h
          refine V_callV (As := []) (rest := []) (s1 := [vI c160.1]) (o := 0) X (con_m_draws c150.2 c160 hc160) gwX10_draws hdX10_draws (by decide) rfl (by decide) rfl rfl rfl (Nat.le_of_ble_eq_true rfl) ⟨Nat.zero_le _, Nat.zero_le _⟩ dX10_goes_160 rfl rfl ?_
          refine V_aload_n X dX10_goes_163 2 rfl ?_
          refine getX10 X (o := 0) (j := 25) rfl (by decide) q1573 (fv_1 (i := 18) rfl rfl) dX10_goes_164 ?_
          refine V_iconst X dX10_goes_167 ?_
          refine V_iald X (o := 18) (n := 5) rfl (by decide) dX10_goes_168 h (fun v168 h => ?_)
          refine V_icmp_ge (tgt := 188) X dX10_goes_169 (by decide) h (fun h => ?_) (fun h => ?_)
          · exact V_sub [2, 3, 4, 5, 6, 7, 1, 0] rfl (J188 _ _ _ _ _ _ _ h)
          · refine V_iload X dX10_goes_172 0 rfl ?_
            refine V_iconst X dX10_goes_174 ?_
            refine V_imul X dX10_goes_175 ?_
            refine V_istore X dX10_goes_176 (by decide) (L' := [(7, vI (c150.1 * 2)), (6, vI s0), (0, .ref (xb x + 0)), (1, vI l1), (2, vI l2), (3, vI l3), (4, vI l4), (5, vI l5)]) rfl ?_
            refine V_aload_n X dX10_goes_178 2 rfl ?_
            refine V_dup X dX10_goes_179 rfl ?_
            refine getX10 X (o := 0) (j := 58) rfl (by decide) q1606 (fv_0 rfl) dX10_goes_180 ?_
            refine V_iconst X dX10_goes_183 ?_
            refine V_iadd X dX10_goes_184 ?_
            refine putX10 X (o := 0) (j := 58) (a := ((gI c160.2 958 0) + 1)) rfl (by decide) rfl rfl rfl q1606 dX10_goes_185 ?_
            exact V_sub [2, 3, 4, 5, 6, 7, 1, 0] rfl (J188 _ _ _ _ _ _ _ h)
      · refine V_goto (tgt := 337) X dX10_goes_140 (by decide) ?_
        refine V_iinc X dX10_goes_337 4 rfl (by decide) (L' := [(3, vI (l3 + 1)), (6, vI s0), (0, .ref (xb x + 0)), (1, vI l1), (2, vI l2), (4, vI l4), (5, vI l5)]) rfl ?_
        refine V_goto (tgt := 64) X dX10_goes_340 (by decide) ?_
        exact V_sub [2, 3, 4, 0] rfl (hc64 _ (Option.some.inj h).symm)
    unfold m_goes_b64 at h
    show V x 9 Km 0 0 sz g 64 [(0, .ref (xb x + 0)), (1, vI l1), (2, vI l2), (3, vI l3)] []
    refine V_iload_n X dX10_goes_64 3 rfl ?_
    refine V_aload_n X dX10_goes_65 0 rfl ?_
    refine getX10 X (o := 0) (j := 49) rfl (by decide) q1597 (fv_0 rfl) dX10_goes_66 ?_
    refine V_icmp_ge (tgt := 343) X dX10_goes_69 (by decide) h (fun h => ?_) (fun h => ?_)
    · obtain ⟨e2, h, e2q⟩ := outR_some h
      replace h := h.trans (congrArg some (he64 _ e2q))
      refine V_iload_n X dX10_goes_343 2 rfl ?_
      have hr := Option.some.inj h
      subst hr
      exact V_end_i hX rfl dX10_goes_344
    · refine V_aload_n X dX10_goes_72 0 rfl ?_
      refine getX10 X (o := 0) (j := 46) rfl (by decide) q1594 (fv_1 (i := 26) rfl rfl) dX10_goes_73 ?_
      refine V_iconst X dX10_goes_76 ?_
      refine V_iload_n X dX10_goes_77 3 rfl ?_
      refine V_imul X dX10_goes_78 ?_
      refine V_iald X (o := 26) (n := 24) rfl (by decide) dX10_goes_79 h (fun v79 h => ?_)
      refine V_istore X dX10_goes_80 (by decide) (L' := [(4, vI v79), (0, .ref (xb x + 0)), (1, vI l1), (2, vI l2), (3, vI l3)]) rfl ?_
      refine V_aload_n X dX10_goes_82 1 rfl ?_
      refine getX10 X (o := 0) (j := 46) rfl (by decide) q1594 (fv_1 (i := 26) rfl rfl) dX10_goes_83 ?_
      refine V_iconst X dX10_goes_86 ?_
      refine V_iload_n X dX10_goes_87 4 rfl ?_
      refine V_imul X dX10_goes_88 ?_
      refine V_iconst X dX10_goes_89 ?_
      refine V_iadd X dX10_goes_90 ?_
      refine V_iald X (o := 26) (n := 24) rfl (by decide) dX10_goes_91 h (fun v91 h => ?_)
      refine V_istore X dX10_goes_92 (by decide) (L' := [(5, vI v91), (4, vI v79), (0, .ref (xb x + 0)), (1, vI l1), (2, vI l2), (3, vI l3)]) rfl ?_
      refine V_aload_n X dX10_goes_94 2 rfl ?_
      refine V_iload X dX10_goes_95 1 rfl ?_
      refine V_iload X dX10_goes_97 0 rfl ?_
      obtain ⟨c99, hc99, h⟩ := bind_some_eq h
      refine V_callV (As := [vI v79, vI v91]) (rest := []) (s1 := [vI c99]) (o := 0) X (con_m_mayDo N g v79 v91 c99 hc99) gwX10_mayDo hdX10_mayDo (by decide) rfl (by decide) rfl rfl rfl (Nat.le_of_ble_eq_true rfl) ⟨Nat.zero_le _, Nat.zero_le _⟩ dX10_goes_99 rfl rfl ?_
      refine V_if_eq (tgt := 116) X dX10_goes_102 (by decide) h (fun h => ?_) (fun h => ?_)
      · refine V_iconst X dX10_goes_116 ?_
        exact V_sub [2, 3, 4, 5, 1, 0] rfl (J117 _ _ _ _ _ _ h)
      · refine V_aload_n X dX10_goes_105 2 rfl ?_
        refine V_iload X dX10_goes_106 1 rfl ?_
        refine V_iload X dX10_goes_108 0 rfl ?_
        obtain ⟨c110, hc110, h⟩ := bind_some_eq h
        refine V_callV (As := [vI v79, vI v91]) (rest := []) (s1 := [vI c110]) (o := 0) X (con_m_beginOf N g v79 v91 c110 hc110) gwX10_beginOf hdX10_beginOf (by decide) rfl (by decide) rfl rfl rfl (Nat.le_of_ble_eq_true rfl) ⟨Nat.zero_le _, Nat.zero_le _⟩ dX10_goes_110 rfl rfl ?_
        refine V_goto (tgt := 117) X dX10_goes_113 (by decide) ?_
        exact V_sub [2, 3, 4, 5, 1, 0] rfl (J117 _ _ _ _ _ _ h)
  have LL36 : ∀ (l1 : Int) (n : Nat) (s : (GS × Int)) (e : (GS)), loopN (fun s => m_goes_b36 N l1 s.1 s.2) n s = some e → V x 9 Km 0 0 sz e 55 [(0, .ref (xb x + 0)), (1, vI l1)] [] → V x 9 Km 0 0 sz s.1 36 [(0, .ref (xb x + 0)), (1, vI l1), (2, vI s.2)] [] := by
    intro l1 n s e
    refine loop_walk (P := fun s => V x 9 Km 0 0 sz s.1 36 [(0, .ref (xb x + 0)), (1, vI l1), (2, vI s.2)] []) (E := fun e => V x 9 Km 0 0 sz e 55 [(0, .ref (xb x + 0)), (1, vI l1)] []) ?_ n s e
    clear e s n
    rintro ⟨g, l2⟩ q36 h hc36 he36
    replace h : m_goes_b36 N l1 g l2 = some q36 := h
    unfold m_goes_b36 at h
    show V x 9 Km 0 0 sz g 36 [(0, .ref (xb x + 0)), (1, vI l1), (2, vI l2)] []
    refine V_iload_n X dX10_goes_36 2 rfl ?_
    refine V_bipush X dX10_goes_37 (by decide) ?_
    refine V_icmp_ge (tgt := 55) X dX10_goes_39 (by decide) h (fun h => ?_) (fun h => ?_)
    · exact V_sub [0, 1] rfl (he36 _ (Option.some.inj h).symm)
    · refine V_aload_n X dX10_goes_42 0 rfl ?_
      refine getX10 X (o := 0) (j := 54) rfl (by decide) q1602 (fv_1 (i := 32) rfl rfl) dX10_goes_43 ?_
      refine V_iload_n X dX10_goes_46 2 rfl ?_
      refine V_iconst X dX10_goes_47 ?_
      refine V_iast X (o := 32) (n := 12) rfl (by decide) dX10_goes_48 h (fun g48 h => ?_)
      refine V_iinc X dX10_goes_49 2 rfl (by decide) (L' := [(2, vI (l2 + 1)), (0, .ref (xb x + 0)), (1, vI l1)]) rfl ?_
      refine V_goto (tgt := 36) X dX10_goes_52 (by decide) ?_
      exact V_sub [1, 2, 0] rfl (hc36 _ (Option.some.inj h).symm)
  have LL2 : ∀ (l1 : Int) (n : Nat) (s : (GS × Int)) (e : (GS)), loopN (fun s => m_goes_b2 N l1 s.1 s.2) n s = some e → V x 9 Km 0 0 sz e 34 [(0, .ref (xb x + 0)), (1, vI l1)] [] → V x 9 Km 0 0 sz s.1 2 [(0, .ref (xb x + 0)), (1, vI l1), (2, vI s.2)] [] := by
    intro l1 n s e
    refine loop_walk (P := fun s => V x 9 Km 0 0 sz s.1 2 [(0, .ref (xb x + 0)), (1, vI l1), (2, vI s.2)] []) (E := fun e => V x 9 Km 0 0 sz e 34 [(0, .ref (xb x + 0)), (1, vI l1)] []) ?_ n s e
    clear e s n
    rintro ⟨g, l2⟩ q2 h hc2 he2
    replace h : m_goes_b2 N l1 g l2 = some q2 := h
    unfold m_goes_b2 at h
    show V x 9 Km 0 0 sz g 2 [(0, .ref (xb x + 0)), (1, vI l1), (2, vI l2)] []
    refine V_iload_n X dX10_goes_2 2 rfl ?_
    refine V_iconst X dX10_goes_3 ?_
    refine V_icmp_ge (tgt := 34) X dX10_goes_4 (by decide) h (fun h => ?_) (fun h => ?_)
    · exact V_sub [0, 1] rfl (he2 _ (Option.some.inj h).symm)
    · refine V_aload_n X dX10_goes_7 0 rfl ?_
      refine getX10 X (o := 0) (j := 53) rfl (by decide) q1601 (fv_1 (i := 31) rfl rfl) dX10_goes_8 ?_
      refine V_iload_n X dX10_goes_11 2 rfl ?_
      refine V_iconst X dX10_goes_12 ?_
      refine V_iast X (o := 31) (n := 4) rfl (by decide) dX10_goes_13 h (fun g13 h => ?_)
      refine V_aload_n X dX10_goes_14 0 rfl ?_
      refine getX10 X (o := 0) (j := 55) rfl (by decide) q1603 (fv_1 (i := 33) rfl rfl) dX10_goes_15 ?_
      refine V_iload_n X dX10_goes_18 2 rfl ?_
      refine V_iconst X dX10_goes_19 ?_
      refine V_iast X (o := 33) (n := 4) rfl (by decide) dX10_goes_20 h (fun g20 h => ?_)
      refine V_aload_n X dX10_goes_21 0 rfl ?_
      refine getX10 X (o := 0) (j := 56) rfl (by decide) q1604 (fv_1 (i := 34) rfl rfl) dX10_goes_22 ?_
      refine V_iload_n X dX10_goes_25 2 rfl ?_
      refine V_iconst X dX10_goes_26 ?_
      refine V_iast X (o := 34) (n := 4) rfl (by decide) dX10_goes_27 h (fun g27 h => ?_)
      refine V_iinc X dX10_goes_28 2 rfl (by decide) (L' := [(2, vI (l2 + 1)), (0, .ref (xb x + 0)), (1, vI l1)]) rfl ?_
      refine V_goto (tgt := 2) X dX10_goes_31 (by decide) ?_
      exact V_sub [1, 2, 0] rfl (hc2 _ (Option.some.inj h).symm)
  unfold m_goes at h
  show V x 9 Km 0 0 sz g 0 [(0, .ref (xb x + 0)), (1, vI l1)] []
  refine V_iconst X dX10_goes_0 ?_
  refine V_istore_n X dX10_goes_1 (by decide) (L' := [(2, vI 0), (0, .ref (xb x + 0)), (1, vI l1)]) rfl ?_
  obtain ⟨t3, t3q, h⟩ := bind_some_eq h
  refine V_sub [1, 2, 0] rfl (LL2 l1 N (g, 0) _ t3q ?_)
  refine V_iconst X dX10_goes_34 ?_
  refine V_istore_n X dX10_goes_35 (by decide) (L' := [(2, vI 0), (0, .ref (xb x + 0)), (1, vI l1)]) rfl ?_
  obtain ⟨t4, t4q, h⟩ := bind_some_eq h
  refine V_sub [1, 2, 0] rfl (LL36 l1 N (t3, 0) _ t4q ?_)
  refine V_aload_n X dX10_goes_55 0 rfl ?_
  refine V_iconst X dX10_goes_56 ?_
  refine putX10 X (o := 0) (j := 58) (a := 0) rfl (by decide) rfl rfl rfl q1606 dX10_goes_57 ?_
  refine V_iconst X dX10_goes_60 ?_
  refine V_istore_n X dX10_goes_61 (by decide) (L' := [(2, vI 0), (0, .ref (xb x + 0)), (1, vI l1)]) rfl ?_
  refine V_iconst X dX10_goes_62 ?_
  refine V_istore_n X dX10_goes_63 (by decide) (L' := [(3, vI 0), (2, vI 0), (0, .ref (xb x + 0)), (1, vI l1)]) rfl ?_
  exact V_sub [2, 3, 1, 0] rfl (LL64 l1 N ((sI t4 958 0 0), 0, 0) _ h rfl)
set_option maxHeartbeats 4000000 in
theorem con_m_wetAll (N : Nat) (g : GS) (r : Int) (h : m_wetAll N g = some r) : Con yX10_wetAll cX10_wetAll 3 (some .int) 1 12 Km (fun b => [.ref (b + 0)]) g (fun _ => some (vI r)) g := by
  refine Con.of RX10 (by decide) rfl (fun b => Nat.le_of_ble_eq_true rfl) (fun x sz hX => ?_)
  have X := hX.1
  have LL4 : ∀  (n : Nat) (s : (Int × Int)) (e : Int), loopN (fun s => m_wetAll_b4 N g s.1 s.2) n s = some e → (e = r) → V x 3 Km 0 0 sz g 4 [(0, .ref (xb x + 0)), (1, vI s.1), (2, vI s.2)] [] := by
    intro  n s e
    refine loop_walk (P := fun s => V x 3 Km 0 0 sz g 4 [(0, .ref (xb x + 0)), (1, vI s.1), (2, vI s.2)] []) (E := fun e => e = r) ?_ n s e
    clear e s n
    rintro ⟨l1, l2⟩ q4 h hc4 he4
    replace h : m_wetAll_b4 N g l1 l2 = some q4 := h
    unfold m_wetAll_b4 at h
    show V x 3 Km 0 0 sz g 4 [(0, .ref (xb x + 0)), (1, vI l1), (2, vI l2)] []
    refine V_iload_n X dX10_wetAll_4 2 rfl ?_
    refine V_aload_n X dX10_wetAll_5 0 rfl ?_
    refine getX10 X (o := 0) (j := 32) rfl (by decide) q1580 (fv_0 rfl) dX10_wetAll_6 ?_
    refine V_icmp_ge (tgt := 27) X dX10_wetAll_9 (by decide) h (fun h => ?_) (fun h => ?_)
    · obtain ⟨e1, h, e1q⟩ := outR_some h
      replace h := h.trans (congrArg some (he4 _ e1q))
      refine V_iload_n X dX10_wetAll_27 1 rfl ?_
      have hr := Option.some.inj h
      subst hr
      exact V_end_i hX rfl dX10_wetAll_28
    · refine V_iload_n X dX10_wetAll_12 1 rfl ?_
      refine V_aload_n X dX10_wetAll_13 0 rfl ?_
      refine getX10 X (o := 0) (j := 55) rfl (by decide) q1603 (fv_1 (i := 33) rfl rfl) dX10_wetAll_14 ?_
      refine V_iload_n X dX10_wetAll_17 2 rfl ?_
      refine V_iald X (o := 33) (n := 4) rfl (by decide) dX10_wetAll_18 h (fun v18 h => ?_)
      refine V_iadd X dX10_wetAll_19 ?_
      refine V_istore_n X dX10_wetAll_20 (by decide) (L' := [(1, vI (l1 + v18)), (0, .ref (xb x + 0)), (2, vI l2)]) rfl ?_
      refine V_iinc X dX10_wetAll_21 2 rfl (by decide) (L' := [(2, vI (l2 + 1)), (1, vI (l1 + v18)), (0, .ref (xb x + 0))]) rfl ?_
      refine V_goto (tgt := 4) X dX10_wetAll_24 (by decide) ?_
      exact V_sub [2, 1, 0] rfl (hc4 _ (Option.some.inj h).symm)
  unfold m_wetAll at h
  show V x 3 Km 0 0 sz g 0 [(0, .ref (xb x + 0))] []
  refine V_iconst X dX10_wetAll_0 ?_
  refine V_istore_n X dX10_wetAll_1 (by decide) (L' := [(1, vI 0), (0, .ref (xb x + 0))]) rfl ?_
  refine V_iconst X dX10_wetAll_2 ?_
  refine V_istore_n X dX10_wetAll_3 (by decide) (L' := [(2, vI 0), (1, vI 0), (0, .ref (xb x + 0))]) rfl ?_
  exact V_sub [2, 1, 0] rfl (LL4 N (0, 0) _ h rfl)
set_option maxHeartbeats 4000000 in
theorem con_m_line (N : Nat) (g : GS) (l1 : Int) (l2 : Int) (r : (Int × GS)) (h : m_line N g l1 l2 = some r) : Con yX10_line cX10_line 3 (some .int) 6 130 Km (fun b => [.ref (b + 0), vI l1, vI l2]) g (fun _ => some (vI r.1)) r.2 := by
  refine Con.of RX10 (by decide) rfl (fun b => Nat.le_of_ble_eq_true rfl) (fun x sz hX => ?_)
  have X := hX.1
  unfold m_line at h
  show V x 3 Km 0 0 sz g 0 [(0, .ref (xb x + 0)), (1, vI l1), (2, vI l2)] []
  refine V_aload_n X dX10_line_0 0 rfl ?_
  refine V_iconst X dX10_line_1 ?_
  refine putX10 X (o := 0) (j := 0) (a := 0) rfl (by decide) rfl rfl rfl q1548 dX10_line_2 ?_
  refine V_aload_n X dX10_line_5 0 rfl ?_
  refine V_iload_n X dX10_line_6 1 rfl ?_
  refine V_iconst X dX10_line_7 ?_
  obtain ⟨c8, hc8, h⟩ := bind_some_eq h
  refine V_callV (As := [vI l1, vI 1]) (rest := []) (s1 := [vI c8.1]) (o := 0) X (con_m_isLine (sI g 900 0 0) l1 1 c8 hc8) gwX10_isLine hdX10_isLine (by decide) rfl (by decide) rfl rfl rfl (Nat.le_of_ble_eq_true rfl) ⟨Nat.zero_le _, Nat.zero_le _⟩ dX10_line_8 rfl rfl ?_
  refine V_if_eq (tgt := 29) X dX10_line_11 (by decide) h (fun h => ?_) (fun h => ?_)
  · refine V_iconst X dX10_line_29 ?_
    have hr := Option.some.inj h
    subst hr
    exact V_end_i hX rfl dX10_line_30
  · refine V_aload_n X dX10_line_14 0 rfl ?_
    refine V_iload_n X dX10_line_15 2 rfl ?_
    refine V_iconst X dX10_line_16 ?_
    refine V_iconst X dX10_line_17 ?_
    obtain ⟨c18, hc18, h⟩ := bind_some_eq h
    refine V_callS (As := [vI l2, vI 0, vI 4]) (rest := [.ref (xb x + 0)]) (s1 := [vI c18, .ref (xb x + 0)]) X (con_m_within c8.2 l2 0 4 c18 hc18) gwX10_within hdX10_within (by decide) rfl rfl (Nat.le_of_ble_eq_true rfl) ⟨Nat.zero_le _, Nat.zero_le _⟩ dX10_line_18 rfl rfl ?_
    refine V_iconst X dX10_line_21 ?_
    refine V_iconst X dX10_line_22 ?_
    obtain ⟨c23, hc23, h⟩ := bind_some_eq h
    refine V_callV (As := [vI c18, vI 2, vI 1]) (rest := []) (s1 := [vI c23.1]) (o := 0) X (con_m_may c8.2 c18 2 1 c23 hc23) gwX10_may hdX10_may (by decide) rfl (by decide) rfl rfl rfl (Nat.le_of_ble_eq_true rfl) ⟨Nat.zero_le _, Nat.zero_le _⟩ dX10_line_23 rfl rfl ?_
    refine V_if_ne (tgt := 31) X dX10_line_26 (by decide) h (fun h => ?_) (fun h => ?_)
    · refine V_iload_n X dX10_line_31 2 rfl ?_
      refine V_iconst X dX10_line_32 ?_
      refine V_icmp_ge (tgt := 47) X dX10_line_33 (by decide) h (fun h => ?_) (fun h => ?_)
      · refine V_aload_n X dX10_line_47 0 rfl ?_
        refine V_iconst X dX10_line_48 ?_
        obtain ⟨c49, hc49, h⟩ := bind_some_eq h
        refine V_callV (As := [vI 0]) (rest := []) (s1 := [vI c49.1]) (o := 0) X (con_m_goes N c23.2 0 c49 hc49) gwX10_goes hdX10_goes (by decide) rfl (by decide) rfl rfl rfl (Nat.le_of_ble_eq_true rfl) ⟨Nat.zero_le _, Nat.zero_le _⟩ dX10_line_49 rfl rfl ?_
        refine V_pop X dX10_line_52 rfl ?_
        refine V_iload_n X dX10_line_53 2 rfl ?_
        refine V_iconst X dX10_line_54 ?_
        refine V_icmp_ne (tgt := 76) X dX10_line_55 (by decide) h (fun h => ?_) (fun h => ?_)
        · refine V_iload_n X dX10_line_76 2 rfl ?_
          refine V_iconst X dX10_line_77 ?_
          refine V_icmp_ne (tgt := 90) X dX10_line_78 (by decide) h (fun h => ?_) (fun h => ?_)
          · refine V_aload_n X dX10_line_90 0 rfl ?_
            refine getX10 X (o := 0) (j := 52) rfl (by decide) q1600 (fv_1 (i := 30) rfl rfl) dX10_line_91 ?_
            refine V_iload_n X dX10_line_94 1 rfl ?_
            refine V_iald X (o := 30) (n := 12) rfl (by decide) dX10_line_95 h (fun v95 h => ?_)
            have hr := Option.some.inj h
            subst hr
            exact V_end_i hX rfl dX10_line_96
          · refine V_aload_n X dX10_line_81 0 rfl ?_
            refine getX10 X (o := 0) (j := 51) rfl (by decide) q1599 (fv_1 (i := 29) rfl rfl) dX10_line_82 ?_
            refine V_iload_n X dX10_line_85 1 rfl ?_
            refine V_iald X (o := 29) (n := 12) rfl (by decide) dX10_line_86 h (fun v86 h => ?_)
            refine V_goto (tgt := 96) X dX10_line_87 (by decide) ?_
            have hr := Option.some.inj h
            subst hr
            exact V_end_i hX rfl dX10_line_96
        · refine V_aload_n X dX10_line_58 0 rfl ?_
          refine getX10 X (o := 0) (j := 51) rfl (by decide) q1599 (fv_1 (i := 29) rfl rfl) dX10_line_59 ?_
          refine V_iload_n X dX10_line_62 1 rfl ?_
          refine V_iald X (o := 29) (n := 12) rfl (by decide) dX10_line_63 h (fun v63 h => ?_)
          refine V_iconst X dX10_line_64 ?_
          refine V_icmp_ne (tgt := 72) X dX10_line_65 (by decide) h (fun h => ?_) (fun h => ?_)
          · refine V_iconst X dX10_line_72 ?_
            refine V_goto (tgt := 96) X dX10_line_73 (by decide) ?_
            have hr := Option.some.inj h
            subst hr
            exact V_end_i hX rfl dX10_line_96
          · refine V_iconst X dX10_line_68 ?_
            refine V_goto (tgt := 96) X dX10_line_69 (by decide) ?_
            have hr := Option.some.inj h
            subst hr
            exact V_end_i hX rfl dX10_line_96
      · refine V_aload_n X dX10_line_36 0 rfl ?_
        refine getX10 X (o := 0) (j := 46) rfl (by decide) q1594 (fv_1 (i := 26) rfl rfl) dX10_line_37 ?_
        refine V_iconst X dX10_line_40 ?_
        refine V_iload_n X dX10_line_41 1 rfl ?_
        refine V_imul X dX10_line_42 ?_
        refine V_iload_n X dX10_line_43 2 rfl ?_
        refine V_iadd X dX10_line_44 ?_
        refine V_iald X (o := 26) (n := 24) rfl (by decide) dX10_line_45 h (fun v45 h => ?_)
        have hr := Option.some.inj h
        subst hr
        exact V_end_i hX rfl dX10_line_46
    · refine V_iconst X dX10_line_29 ?_
      have hr := Option.some.inj h
      subst hr
      exact V_end_i hX rfl dX10_line_30
set_option maxHeartbeats 4000000 in
theorem con_m_span (N : Nat) (g : GS) (r : (Int × GS)) (h : m_span N g = some r) : Con yX10_span cX10_span 1 (some .int) 6 130 Km (fun b => [.ref (b + 0)]) g (fun _ => some (vI r.1)) r.2 := by
  refine Con.of RX10 (by decide) rfl (fun b => Nat.le_of_ble_eq_true rfl) (fun x sz hX => ?_)
  have X := hX.1
  unfold m_span at h
  show V x 1 Km 0 0 sz g 0 [(0, .ref (xb x + 0))] []
  refine V_aload_n X dX10_span_0 0 rfl ?_
  refine V_iconst X dX10_span_1 ?_
  refine putX10 X (o := 0) (j := 0) (a := 0) rfl (by decide) rfl rfl rfl q1548 dX10_span_2 ?_
  refine V_aload_n X dX10_span_5 0 rfl ?_
  refine V_iconst X dX10_span_6 ?_
  obtain ⟨c7, hc7, h⟩ := bind_some_eq h
  refine V_callV (As := [vI 0]) (rest := []) (s1 := [vI c7.1]) (o := 0) X (con_m_goes N (sI g 900 0 0) 0 c7 hc7) gwX10_goes hdX10_goes (by decide) rfl (by decide) rfl rfl rfl (Nat.le_of_ble_eq_true rfl) ⟨Nat.zero_le _, Nat.zero_le _⟩ dX10_span_7 rfl rfl ?_
  have hr := Option.some.inj h
  subst hr
  exact V_end_i hX rfl dX10_span_10
set_option maxHeartbeats 4000000 in
theorem con_m_wet (N : Nat) (g : GS) (l1 : Int) (r : (Int × GS)) (h : m_wet N g l1 = some r) : Con yX10_wet cX10_wet 2 (some .int) 6 130 Km (fun b => [.ref (b + 0), vI l1]) g (fun _ => some (vI r.1)) r.2 := by
  refine Con.of RX10 (by decide) rfl (fun b => Nat.le_of_ble_eq_true rfl) (fun x sz hX => ?_)
  have X := hX.1
  unfold m_wet at h
  show V x 2 Km 0 0 sz g 0 [(0, .ref (xb x + 0)), (1, vI l1)] []
  refine V_aload_n X dX10_wet_0 0 rfl ?_
  refine V_iconst X dX10_wet_1 ?_
  refine putX10 X (o := 0) (j := 0) (a := 0) rfl (by decide) rfl rfl rfl q1548 dX10_wet_2 ?_
  refine V_aload_n X dX10_wet_5 0 rfl ?_
  refine V_iload_n X dX10_wet_6 1 rfl ?_
  refine V_iconst X dX10_wet_7 ?_
  obtain ⟨c8, hc8, h⟩ := bind_some_eq h
  refine V_callV (As := [vI l1, vI 1]) (rest := []) (s1 := [vI c8.1]) (o := 0) X (con_m_isPerson (sI g 900 0 0) l1 1 c8 hc8) gwX10_isPerson hdX10_isPerson (by decide) rfl (by decide) rfl rfl rfl (Nat.le_of_ble_eq_true rfl) ⟨Nat.zero_le _, Nat.zero_le _⟩ dX10_wet_8 rfl rfl ?_
  refine V_if_ne (tgt := 16) X dX10_wet_11 (by decide) h (fun h => ?_) (fun h => ?_)
  · refine V_aload_n X dX10_wet_16 0 rfl ?_
    refine V_iconst X dX10_wet_17 ?_
    obtain ⟨c18, hc18, h⟩ := bind_some_eq h
    refine V_callV (As := [vI 0]) (rest := []) (s1 := [vI c18.1]) (o := 0) X (con_m_goes N c8.2 0 c18 hc18) gwX10_goes hdX10_goes (by decide) rfl (by decide) rfl rfl rfl (Nat.le_of_ble_eq_true rfl) ⟨Nat.zero_le _, Nat.zero_le _⟩ dX10_wet_18 rfl rfl ?_
    refine V_pop X dX10_wet_21 rfl ?_
    refine V_aload_n X dX10_wet_22 0 rfl ?_
    refine getX10 X (o := 0) (j := 55) rfl (by decide) q1603 (fv_1 (i := 33) rfl rfl) dX10_wet_23 ?_
    refine V_iload_n X dX10_wet_26 1 rfl ?_
    refine V_iald X (o := 33) (n := 4) rfl (by decide) dX10_wet_27 h (fun v27 h => ?_)
    have hr := Option.some.inj h
    subst hr
    exact V_end_i hX rfl dX10_wet_28
  · refine V_iconst X dX10_wet_14 ?_
    have hr := Option.some.inj h
    subst hr
    exact V_end_i hX rfl dX10_wet_15
set_option maxHeartbeats 4000000 in
theorem con_m_idle (N : Nat) (g : GS) (l1 : Int) (r : (Int × GS)) (h : m_idle N g l1 = some r) : Con yX10_idle cX10_idle 2 (some .int) 6 130 Km (fun b => [.ref (b + 0), vI l1]) g (fun _ => some (vI r.1)) r.2 := by
  refine Con.of RX10 (by decide) rfl (fun b => Nat.le_of_ble_eq_true rfl) (fun x sz hX => ?_)
  have X := hX.1
  unfold m_idle at h
  show V x 2 Km 0 0 sz g 0 [(0, .ref (xb x + 0)), (1, vI l1)] []
  refine V_aload_n X dX10_idle_0 0 rfl ?_
  refine V_iconst X dX10_idle_1 ?_
  refine putX10 X (o := 0) (j := 0) (a := 0) rfl (by decide) rfl rfl rfl q1548 dX10_idle_2 ?_
  refine V_aload_n X dX10_idle_5 0 rfl ?_
  refine V_iload_n X dX10_idle_6 1 rfl ?_
  refine V_iconst X dX10_idle_7 ?_
  obtain ⟨c8, hc8, h⟩ := bind_some_eq h
  refine V_callV (As := [vI l1, vI 1]) (rest := []) (s1 := [vI c8.1]) (o := 0) X (con_m_isPerson (sI g 900 0 0) l1 1 c8 hc8) gwX10_isPerson hdX10_isPerson (by decide) rfl (by decide) rfl rfl rfl (Nat.le_of_ble_eq_true rfl) ⟨Nat.zero_le _, Nat.zero_le _⟩ dX10_idle_8 rfl rfl ?_
  refine V_if_ne (tgt := 16) X dX10_idle_11 (by decide) h (fun h => ?_) (fun h => ?_)
  · refine V_aload_n X dX10_idle_16 0 rfl ?_
    refine V_iconst X dX10_idle_17 ?_
    obtain ⟨c18, hc18, h⟩ := bind_some_eq h
    refine V_callV (As := [vI 0]) (rest := []) (s1 := [vI c18.1]) (o := 0) X (con_m_goes N c8.2 0 c18 hc18) gwX10_goes hdX10_goes (by decide) rfl (by decide) rfl rfl rfl (Nat.le_of_ble_eq_true rfl) ⟨Nat.zero_le _, Nat.zero_le _⟩ dX10_idle_18 rfl rfl ?_
    refine V_aload_n X dX10_idle_21 0 rfl ?_
    refine getX10 X (o := 0) (j := 56) rfl (by decide) q1604 (fv_1 (i := 34) rfl rfl) dX10_idle_22 ?_
    refine V_iload_n X dX10_idle_25 1 rfl ?_
    refine V_iald X (o := 34) (n := 4) rfl (by decide) dX10_idle_26 h (fun v26 h => ?_)
    refine V_isub X dX10_idle_27 ?_
    have hr := Option.some.inj h
    subst hr
    exact V_end_i hX rfl dX10_idle_28
  · refine V_iconst X dX10_idle_14 ?_
    have hr := Option.some.inj h
    subst hr
    exact V_end_i hX rfl dX10_idle_15
set_option maxHeartbeats 4000000 in
theorem con_m_umbrella (N : Nat) (g : GS) (r : (Int × GS)) (h : m_umbrella N g = some r) : Con yX10_umbrella cX10_umbrella 4 (some .int) 6 130 Km (fun b => [.ref (b + 0)]) g (fun _ => some (vI r.1)) r.2 := by
  refine Con.of RX10 (by decide) rfl (fun b => Nat.le_of_ble_eq_true rfl) (fun x sz hX => ?_)
  have X := hX.1
  have LL17 : ∀ (g : GS) (n : Nat) (s : (Int × Int × Int)) (e : (Int × GS)), loopN (fun s => m_umbrella_b17 N g s.1 s.2.1 s.2.2) n s = some e → (e = r) → V x 4 Km 0 0 sz g 17 [(0, .ref (xb x + 0)), (1, vI s.1), (2, vI s.2.1), (3, vI s.2.2)] [] := by
    intro g n s e
    refine loop_walk (P := fun s => V x 4 Km 0 0 sz g 17 [(0, .ref (xb x + 0)), (1, vI s.1), (2, vI s.2.1), (3, vI s.2.2)] []) (E := fun e => e = r) ?_ n s e
    clear e s n
    rintro ⟨l1, l2, l3⟩ q17 h hc17 he17
    replace h : m_umbrella_b17 N g l1 l2 l3 = some q17 := h
    unfold m_umbrella_b17 at h
    show V x 4 Km 0 0 sz g 17 [(0, .ref (xb x + 0)), (1, vI l1), (2, vI l2), (3, vI l3)] []
    refine V_iload_n X dX10_umbrella_17 3 rfl ?_
    refine V_aload_n X dX10_umbrella_18 0 rfl ?_
    refine getX10 X (o := 0) (j := 32) rfl (by decide) q1580 (fv_0 rfl) dX10_umbrella_19 ?_
    refine V_icmp_ge (tgt := 53) X dX10_umbrella_22 (by decide) h (fun h => ?_) (fun h => ?_)
    · obtain ⟨e1, h, e1q⟩ := outR_some h
      replace h := h.trans (congrArg some (he17 _ e1q))
      refine V_iload_n X dX10_umbrella_53 1 rfl ?_
      have hr := Option.some.inj h
      subst hr
      exact V_end_i hX rfl dX10_umbrella_54
    · refine V_aload_n X dX10_umbrella_25 0 rfl ?_
      refine getX10 X (o := 0) (j := 55) rfl (by decide) q1603 (fv_1 (i := 33) rfl rfl) dX10_umbrella_26 ?_
      refine V_iload_n X dX10_umbrella_29 3 rfl ?_
      refine V_iald X (o := 33) (n := 4) rfl (by decide) dX10_umbrella_30 h (fun v30 h => ?_)
      refine V_iload_n X dX10_umbrella_31 2 rfl ?_
      refine V_icmp_gt (tgt := 38) X dX10_umbrella_32 (by decide) h (fun h => ?_) (fun h => ?_)
      · refine V_iload_n X dX10_umbrella_38 3 rfl ?_
        refine V_istore_n X dX10_umbrella_39 (by decide) (L' := [(1, vI l3), (0, .ref (xb x + 0)), (2, vI l2), (3, vI l3)]) rfl ?_
        refine V_aload_n X dX10_umbrella_40 1 rfl ?_
        refine getX10 X (o := 0) (j := 55) rfl (by decide) q1603 (fv_1 (i := 33) rfl rfl) dX10_umbrella_41 ?_
        refine V_iload_n X dX10_umbrella_44 3 rfl ?_
        refine V_iald X (o := 33) (n := 4) rfl (by decide) dX10_umbrella_45 h (fun v45 h => ?_)
        refine V_istore_n X dX10_umbrella_46 (by decide) (L' := [(2, vI v45), (1, vI l3), (0, .ref (xb x + 0)), (3, vI l3)]) rfl ?_
        refine V_iinc X dX10_umbrella_47 3 rfl (by decide) (L' := [(3, vI (l3 + 1)), (2, vI v45), (1, vI l3), (0, .ref (xb x + 0))]) rfl ?_
        refine V_goto (tgt := 17) X dX10_umbrella_50 (by decide) ?_
        exact V_sub [3, 2, 1, 0] rfl (hc17 _ (Option.some.inj h).symm)
      · refine V_goto (tgt := 47) X dX10_umbrella_35 (by decide) ?_
        refine V_iinc X dX10_umbrella_47 3 rfl (by decide) (L' := [(3, vI (l3 + 1)), (0, .ref (xb x + 0)), (1, vI l1), (2, vI l2)]) rfl ?_
        refine V_goto (tgt := 17) X dX10_umbrella_50 (by decide) ?_
        exact V_sub [1, 2, 3, 0] rfl (hc17 _ (Option.some.inj h).symm)
  unfold m_umbrella at h
  show V x 4 Km 0 0 sz g 0 [(0, .ref (xb x + 0))] []
  refine V_aload_n X dX10_umbrella_0 0 rfl ?_
  refine V_iconst X dX10_umbrella_1 ?_
  refine putX10 X (o := 0) (j := 0) (a := 0) rfl (by decide) rfl rfl rfl q1548 dX10_umbrella_2 ?_
  refine V_aload_n X dX10_umbrella_5 0 rfl ?_
  refine V_iconst X dX10_umbrella_6 ?_
  obtain ⟨c7, hc7, h⟩ := bind_some_eq h
  refine V_callV (As := [vI 0]) (rest := []) (s1 := [vI c7.1]) (o := 0) X (con_m_goes N (sI g 900 0 0) 0 c7 hc7) gwX10_goes hdX10_goes (by decide) rfl (by decide) rfl rfl rfl (Nat.le_of_ble_eq_true rfl) ⟨Nat.zero_le _, Nat.zero_le _⟩ dX10_umbrella_7 rfl rfl ?_
  refine V_pop X dX10_umbrella_10 rfl ?_
  refine V_iconst X dX10_umbrella_11 ?_
  refine V_istore_n X dX10_umbrella_12 (by decide) (L' := [(1, vI (-1)), (0, .ref (xb x + 0))]) rfl ?_
  refine V_iconst X dX10_umbrella_13 ?_
  refine V_istore_n X dX10_umbrella_14 (by decide) (L' := [(2, vI 0), (1, vI (-1)), (0, .ref (xb x + 0))]) rfl ?_
  refine V_iconst X dX10_umbrella_15 ?_
  refine V_istore_n X dX10_umbrella_16 (by decide) (L' := [(3, vI 0), (2, vI 0), (1, vI (-1)), (0, .ref (xb x + 0))]) rfl ?_
  exact V_sub [3, 2, 1, 0] rfl (LL17 c7.2 N ((-1), 0, 0) _ h rfl)
set_option maxHeartbeats 4000000 in
theorem con_m_slackOf (N : Nat) (g : GS) (l1 : Int) (r : (Int × GS)) (h : m_slackOf N g l1 = some r) : Con yX10_slackOf cX10_slackOf 4 (some .int) 6 130 Km (fun b => [.ref (b + 0), vI l1]) g (fun _ => some (vI r.1)) r.2 := by
  refine Con.of RX10 (by decide) rfl (fun b => Nat.le_of_ble_eq_true rfl) (fun x sz hX => ?_)
  have X := hX.1
  have J57 : ∀ (g : GS) (l1 : Int) (l3 : Int), m_slackOf_j57 N g l1 l3 = some r → V x 4 Km 0 0 sz g 57 [(0, .ref (xb x + 0)), (1, vI l1), (3, vI l3)] [] := by
    intro g l1 l3 h
    unfold m_slackOf_j57 at h
    refine V_aload_n X dX10_slackOf_57 0 rfl ?_
    refine getX10 X (o := 0) (j := 57) rfl (by decide) q1605 (fv_1 (i := 35) rfl rfl) dX10_slackOf_58 ?_
    refine V_iload_n X dX10_slackOf_61 1 rfl ?_
    refine V_iconst X dX10_slackOf_62 ?_
    refine V_iast X (o := 35) (n := 12) rfl (by decide) dX10_slackOf_63 h (fun g63 h => ?_)
    refine V_iload_n X dX10_slackOf_64 2 rfl ?_
    have hr := Option.some.inj h
    subst hr
    exact V_end_i hX rfl dX10_slackOf_65
  have LL27 : ∀ (l1 : Int) (l2 : Int) (n : Nat) (s : (GS × Int)) (e : (GS × Int)), loopN (fun s => m_slackOf_b27 N l1 l2 s.1 s.2) n s = some e → V x 4 Km 0 0 sz e.1 57 [(0, .ref (xb x + 0)), (1, vI l1), (3, vI e.2)] [] → V x 4 Km 0 0 sz s.1 27 [(0, .ref (xb x + 0)), (1, vI l1), (2, vI l2), (3, vI s.2)] [] := by
    intro l1 l2 n s e
    refine loop_walk (P := fun s => V x 4 Km 0 0 sz s.1 27 [(0, .ref (xb x + 0)), (1, vI l1), (2, vI l2), (3, vI s.2)] []) (E := fun e => V x 4 Km 0 0 sz e.1 57 [(0, .ref (xb x + 0)), (1, vI l1), (3, vI e.2)] []) ?_ n s e
    clear e s n
    rintro ⟨g, l3⟩ q27 h hc27 he27
    replace h : m_slackOf_b27 N l1 l2 g l3 = some q27 := h
    unfold m_slackOf_b27 at h
    show V x 4 Km 0 0 sz g 27 [(0, .ref (xb x + 0)), (1, vI l1), (2, vI l2), (3, vI l3)] []
    refine V_iload_n X dX10_slackOf_27 3 rfl ?_
    refine V_bipush X dX10_slackOf_28 (by decide) ?_
    refine V_icmp_ge (tgt := 57) X dX10_slackOf_30 (by decide) h (fun h => ?_) (fun h => ?_)
    · exact V_sub [0, 1, 3] rfl (he27 _ (Option.some.inj h).symm)
    · refine V_aload_n X dX10_slackOf_33 0 rfl ?_
      refine V_iconst X dX10_slackOf_34 ?_
      obtain ⟨c35, hc35, h⟩ := bind_some_eq h
      refine V_callV (As := [vI 0]) (rest := []) (s1 := [vI c35.1]) (o := 0) X (con_m_goes N g 0 c35 hc35) gwX10_goes hdX10_goes (by decide) rfl (by decide) rfl rfl rfl (Nat.le_of_ble_eq_true rfl) ⟨Nat.zero_le _, Nat.zero_le _⟩ dX10_slackOf_35 rfl rfl ?_
      refine V_iload_n X dX10_slackOf_38 2 rfl ?_
      refine V_icmp_gt (tgt := 57) X dX10_slackOf_39 (by decide) h (fun h => ?_) (fun h => ?_)
      · exact V_sub [0, 1, 3] rfl (he27 _ (Option.some.inj h).symm)
      · refine V_iinc X dX10_slackOf_42 3 rfl (by decide) (L' := [(3, vI (l3 + 1)), (0, .ref (xb x + 0)), (1, vI l1), (2, vI l2)]) rfl ?_
        refine V_aload_n X dX10_slackOf_45 1 rfl ?_
        refine getX10 X (o := 0) (j := 57) rfl (by decide) q1605 (fv_1 (i := 35) rfl rfl) dX10_slackOf_46 ?_
        refine V_iload_n X dX10_slackOf_49 2 rfl ?_
        refine V_iload_n X dX10_slackOf_50 0 rfl ?_
        refine V_iconst X dX10_slackOf_51 ?_
        refine V_iadd X dX10_slackOf_52 ?_
        refine V_iast X (o := 35) (n := 12) rfl (by decide) dX10_slackOf_53 h (fun g53 h => ?_)
        refine V_goto (tgt := 27) X dX10_slackOf_54 (by decide) ?_
        exact V_sub [1, 2, 3, 0] rfl (hc27 _ (Option.some.inj h).symm)
  unfold m_slackOf at h
  show V x 4 Km 0 0 sz g 0 [(0, .ref (xb x + 0)), (1, vI l1)] []
  refine V_aload_n X dX10_slackOf_0 0 rfl ?_
  refine V_iconst X dX10_slackOf_1 ?_
  obtain ⟨c2, hc2, h⟩ := bind_some_eq h
  refine V_callV (As := [vI 0]) (rest := []) (s1 := [vI c2.1]) (o := 0) X (con_m_goes N g 0 c2 hc2) gwX10_goes hdX10_goes (by decide) rfl (by decide) rfl rfl rfl (Nat.le_of_ble_eq_true rfl) ⟨Nat.zero_le _, Nat.zero_le _⟩ dX10_slackOf_2 rfl rfl ?_
  refine V_istore_n X dX10_slackOf_5 (by decide) (L' := [(2, vI c2.1), (0, .ref (xb x + 0)), (1, vI l1)]) rfl ?_
  refine V_aload_n X dX10_slackOf_6 1 rfl ?_
  refine getX10 X (o := 0) (j := 54) rfl (by decide) q1602 (fv_1 (i := 32) rfl rfl) dX10_slackOf_7 ?_
  refine V_iload_n X dX10_slackOf_10 2 rfl ?_
  refine V_iald X (o := 32) (n := 12) rfl (by decide) dX10_slackOf_11 h (fun v11 h => ?_)
  refine V_iconst X dX10_slackOf_12 ?_
  refine V_icmp_ne (tgt := 18) X dX10_slackOf_13 (by decide) h (fun h => ?_) (fun h => ?_)
  · refine V_iconst X dX10_slackOf_18 ?_
    refine V_istore_n X dX10_slackOf_19 (by decide) (L' := [(3, vI 0), (2, vI c2.1), (0, .ref (xb x + 0)), (1, vI l1)]) rfl ?_
    refine V_aload_n X dX10_slackOf_20 2 rfl ?_
    refine getX10 X (o := 0) (j := 57) rfl (by decide) q1605 (fv_1 (i := 35) rfl rfl) dX10_slackOf_21 ?_
    refine V_iload_n X dX10_slackOf_24 3 rfl ?_
    refine V_iconst X dX10_slackOf_25 ?_
    refine V_iast X (o := 35) (n := 12) rfl (by decide) dX10_slackOf_26 h (fun g26 h => ?_)
    obtain ⟨t1, t1q, h⟩ := bind_some_eq h
    refine V_sub [2, 3, 1, 0] rfl (LL27 l1 c2.1 N (g26, 0) _ t1q ?_)
    exact V_sub [0, 1, 2] rfl (J57 _ _ _ h)
  · refine V_iconst X dX10_slackOf_16 ?_
    have hr := Option.some.inj h
    subst hr
    exact V_end_i hX rfl dX10_slackOf_17
set_option maxHeartbeats 4000000 in
theorem con_m_slack (N : Nat) (g : GS) (l1 : Int) (r : (Int × GS)) (h : m_slack N g l1 = some r) : Con yX10_slack cX10_slack 2 (some .int) 7 153 Km (fun b => [.ref (b + 0), vI l1]) g (fun _ => some (vI r.1)) r.2 := by
  refine Con.of RX10 (by decide) rfl (fun b => Nat.le_of_ble_eq_true rfl) (fun x sz hX => ?_)
  have X := hX.1
  unfold m_slack at h
  show V x 2 Km 0 0 sz g 0 [(0, .ref (xb x + 0)), (1, vI l1)] []
  refine V_aload_n X dX10_slack_0 0 rfl ?_
  refine V_iconst X dX10_slack_1 ?_
  refine putX10 X (o := 0) (j := 0) (a := 0) rfl (by decide) rfl rfl rfl q1548 dX10_slack_2 ?_
  refine V_aload_n X dX10_slack_5 0 rfl ?_
  refine V_iload_n X dX10_slack_6 1 rfl ?_
  refine V_iconst X dX10_slack_7 ?_
  obtain ⟨c8, hc8, h⟩ := bind_some_eq h
  refine V_callV (As := [vI l1, vI 1]) (rest := []) (s1 := [vI c8.1]) (o := 0) X (con_m_isDeed (sI g 900 0 0) l1 1 c8 hc8) gwX10_isDeed hdX10_isDeed (by decide) rfl (by decide) rfl rfl rfl (Nat.le_of_ble_eq_true rfl) ⟨Nat.zero_le _, Nat.zero_le _⟩ dX10_slack_8 rfl rfl ?_
  refine V_if_ne (tgt := 16) X dX10_slack_11 (by decide) h (fun h => ?_) (fun h => ?_)
  · refine V_aload_n X dX10_slack_16 0 rfl ?_
    refine V_iload_n X dX10_slack_17 1 rfl ?_
    obtain ⟨c18, hc18, h⟩ := bind_some_eq h
    refine V_callV (As := [vI l1]) (rest := []) (s1 := [vI c18.1]) (o := 0) X (con_m_slackOf N c8.2 l1 c18 hc18) gwX10_slackOf hdX10_slackOf (by decide) rfl (by decide) rfl rfl rfl (Nat.le_of_ble_eq_true rfl) ⟨Nat.zero_le _, Nat.zero_le _⟩ dX10_slack_18 rfl rfl ?_
    have hr := Option.some.inj h
    subst hr
    exact V_end_i hX rfl dX10_slack_21
  · refine V_iconst X dX10_slack_14 ?_
    have hr := Option.some.inj h
    subst hr
    exact V_end_i hX rfl dX10_slack_15
set_option maxHeartbeats 4000000 in
theorem con_m_urgent (N : Nat) (g : GS) (r : (Int × GS)) (h : m_urgent N g = some r) : Con yX10_urgent cX10_urgent 3 (some .int) 7 153 Km (fun b => [.ref (b + 0)]) g (fun _ => some (vI r.1)) r.2 := by
  refine Con.of RX10 (by decide) rfl (fun b => Nat.le_of_ble_eq_true rfl) (fun x sz hX => ?_)
  have X := hX.1
  have LL9 : ∀  (n : Nat) (s : (GS × Int × Int)) (e : (Int × GS)), loopN (fun s => m_urgent_b9 N s.1 s.2.1 s.2.2) n s = some e → (e = r) → V x 3 Km 0 0 sz s.1 9 [(0, .ref (xb x + 0)), (1, vI s.2.1), (2, vI s.2.2)] [] := by
    intro  n s e
    refine loop_walk (P := fun s => V x 3 Km 0 0 sz s.1 9 [(0, .ref (xb x + 0)), (1, vI s.2.1), (2, vI s.2.2)] []) (E := fun e => e = r) ?_ n s e
    clear e s n
    rintro ⟨g, l1, l2⟩ q9 h hc9 he9
    replace h : m_urgent_b9 N g l1 l2 = some q9 := h
    have J33 : ∀ (g : GS) (l2 : Int) (s0 : Int) (s1 : Int), m_urgent_j33 N g l2 s0 s1 = some q9 → V x 3 Km 0 0 sz g 33 [(0, .ref (xb x + 0)), (2, vI l2)] [vI s0, vI s1] := by
      intro g l2 s0 s1 h
      unfold m_urgent_j33 at h
      refine V_ior X dX10_urgent_33 ?_
      refine V_istore_n X dX10_urgent_34 (by decide) (L' := [(1, vI (i_or s1 s0)), (0, .ref (xb x + 0)), (2, vI l2)]) rfl ?_
      refine V_iinc X dX10_urgent_35 2 rfl (by decide) (L' := [(2, vI (l2 + 1)), (1, vI (i_or s1 s0)), (0, .ref (xb x + 0))]) rfl ?_
      refine V_goto (tgt := 9) X dX10_urgent_38 (by decide) ?_
      exact V_sub [2, 1, 0] rfl (hc9 _ (Option.some.inj h).symm)
    unfold m_urgent_b9 at h
    show V x 3 Km 0 0 sz g 9 [(0, .ref (xb x + 0)), (1, vI l1), (2, vI l2)] []
    refine V_iload_n X dX10_urgent_9 2 rfl ?_
    refine V_aload_n X dX10_urgent_10 0 rfl ?_
    refine getX10 X (o := 0) (j := 33) rfl (by decide) q1581 (fv_0 rfl) dX10_urgent_11 ?_
    refine V_icmp_ge (tgt := 41) X dX10_urgent_14 (by decide) h (fun h => ?_) (fun h => ?_)
    · obtain ⟨e1, h, e1q⟩ := outR_some h
      replace h := h.trans (congrArg some (he9 _ e1q))
      refine V_iload_n X dX10_urgent_41 1 rfl ?_
      have hr := Option.some.inj h
      subst hr
      exact V_end_i hX rfl dX10_urgent_42
    · refine V_iload_n X dX10_urgent_17 1 rfl ?_
      refine V_aload_n X dX10_urgent_18 0 rfl ?_
      refine V_iload_n X dX10_urgent_19 2 rfl ?_
      obtain ⟨c20, hc20, h⟩ := bind_some_eq h
      refine V_callV (As := [vI l2]) (rest := [vI l1]) (s1 := [vI c20.1, vI l1]) (o := 0) X (con_m_slackOf N g l2 c20 hc20) gwX10_slackOf hdX10_slackOf (by decide) rfl (by decide) rfl rfl rfl (Nat.le_of_ble_eq_true rfl) ⟨Nat.zero_le _, Nat.zero_le _⟩ dX10_urgent_20 rfl rfl ?_
      refine V_if_ne (tgt := 32) X dX10_urgent_23 (by decide) h (fun h => ?_) (fun h => ?_)
      · refine V_iconst X dX10_urgent_32 ?_
        exact V_sub [0, 2] rfl (J33 _ _ _ _ h)
      · refine V_iconst X dX10_urgent_26 ?_
        refine V_iload_n X dX10_urgent_27 2 rfl ?_
        refine V_ishl X dX10_urgent_28 ?_
        refine V_goto (tgt := 33) X dX10_urgent_29 (by decide) ?_
        exact V_sub [0, 2] rfl (J33 _ _ _ _ h)
  unfold m_urgent at h
  show V x 3 Km 0 0 sz g 0 [(0, .ref (xb x + 0))] []
  refine V_aload_n X dX10_urgent_0 0 rfl ?_
  refine V_iconst X dX10_urgent_1 ?_
  refine putX10 X (o := 0) (j := 0) (a := 0) rfl (by decide) rfl rfl rfl q1548 dX10_urgent_2 ?_
  refine V_iconst X dX10_urgent_5 ?_
  refine V_istore_n X dX10_urgent_6 (by decide) (L' := [(1, vI 0), (0, .ref (xb x + 0))]) rfl ?_
  refine V_iconst X dX10_urgent_7 ?_
  refine V_istore_n X dX10_urgent_8 (by decide) (L' := [(2, vI 0), (1, vI 0), (0, .ref (xb x + 0))]) rfl ?_
  exact V_sub [2, 1, 0] rfl (LL9 N ((sI g 900 0 0), 0, 0) _ h rfl)
set_option maxHeartbeats 4000000 in
theorem con_m_ahead (N : Nat) (g : GS) (l1 : Int) (r : (Int × GS)) (h : m_ahead N g l1 = some r) : Con yX10_ahead cX10_ahead 4 (some .int) 3 57 Km (fun b => [.ref (b + 0), vI l1]) g (fun _ => some (vI r.1)) r.2 := by
  refine Con.of RX10 (by decide) rfl (fun b => Nat.le_of_ble_eq_true rfl) (fun x sz hX => ?_)
  have X := hX.1
  have LL31 : ∀ (g : GS) (n : Nat) (s : (Int × Int)) (e : (Int × GS)), loopN (fun s => m_ahead_b31 N g s.1 s.2) n s = some e → (e = r) → V x 4 Km 0 0 sz g 31 [(0, .ref (xb x + 0)), (2, vI s.1), (3, vI s.2)] [] := by
    intro g n s e
    refine loop_walk (P := fun s => V x 4 Km 0 0 sz g 31 [(0, .ref (xb x + 0)), (2, vI s.1), (3, vI s.2)] []) (E := fun e => e = r) ?_ n s e
    clear e s n
    rintro ⟨l2, l3⟩ q31 h hc31 he31
    replace h : m_ahead_b31 N g l2 l3 = some q31 := h
    have J59 : ∀ (l3 : Int) (s0 : Int) (s1 : Int), m_ahead_j59 N g l3 s0 s1 = some q31 → V x 4 Km 0 0 sz g 59 [(0, .ref (xb x + 0)), (3, vI l3)] [vI s0, vI s1] := by
      intro l3 s0 s1 h
      unfold m_ahead_j59 at h
      refine V_ior X dX10_ahead_59 ?_
      refine V_istore_n X dX10_ahead_60 (by decide) (L' := [(2, vI (i_or s1 s0)), (0, .ref (xb x + 0)), (3, vI l3)]) rfl ?_
      refine V_iinc X dX10_ahead_61 2 rfl (by decide) (L' := [(3, vI (l3 + (-1))), (2, vI (i_or s1 s0)), (0, .ref (xb x + 0))]) rfl ?_
      refine V_goto (tgt := 31) X dX10_ahead_64 (by decide) ?_
      exact V_sub [2, 1, 0] rfl (hc31 _ (Option.some.inj h).symm)
    unfold m_ahead_b31 at h
    show V x 4 Km 0 0 sz g 31 [(0, .ref (xb x + 0)), (2, vI l2), (3, vI l3)] []
    refine V_iload_n X dX10_ahead_31 2 rfl ?_
    refine V_if_lt (tgt := 67) X dX10_ahead_32 (by decide) h (fun h => ?_) (fun h => ?_)
    · obtain ⟨e1, h, e1q⟩ := outR_some h
      replace h := h.trans (congrArg some (he31 _ e1q))
      refine V_iload_n X dX10_ahead_67 1 rfl ?_
      have hr := Option.some.inj h
      subst hr
      exact V_end_i hX rfl dX10_ahead_68
    · refine V_iload_n X dX10_ahead_35 1 rfl ?_
      refine V_iload_n X dX10_ahead_36 1 rfl ?_
      refine V_iload_n X dX10_ahead_37 2 rfl ?_
      refine V_ishr X dX10_ahead_38 ?_
      refine V_iconst X dX10_ahead_39 ?_
      refine V_iand X dX10_ahead_40 ?_
      refine V_iconst X dX10_ahead_41 ?_
      refine V_icmp_ne (tgt := 58) X dX10_ahead_42 (by decide) h (fun h => ?_) (fun h => ?_)
      · refine V_iconst X dX10_ahead_58 ?_
        exact V_sub [0, 2] rfl (J59 _ _ _ h)
      · refine V_aload_n X dX10_ahead_45 0 rfl ?_
        refine getX10 X (o := 0) (j := 17) rfl (by decide) q1565 (fv_1 (i := 10) rfl rfl) dX10_ahead_46 ?_
        refine V_iconst X dX10_ahead_49 ?_
        refine V_iload_n X dX10_ahead_50 2 rfl ?_
        refine V_imul X dX10_ahead_51 ?_
        refine V_iconst X dX10_ahead_52 ?_
        refine V_iadd X dX10_ahead_53 ?_
        refine V_iald X (o := 10) (n := 60) rfl (by decide) dX10_ahead_54 h (fun v54 h => ?_)
        refine V_goto (tgt := 59) X dX10_ahead_55 (by decide) ?_
        exact V_sub [0, 2] rfl (J59 _ _ _ h)
  unfold m_ahead at h
  show V x 4 Km 0 0 sz g 0 [(0, .ref (xb x + 0)), (1, vI l1)] []
  refine V_aload_n X dX10_ahead_0 0 rfl ?_
  refine V_iconst X dX10_ahead_1 ?_
  refine putX10 X (o := 0) (j := 0) (a := 0) rfl (by decide) rfl rfl rfl q1548 dX10_ahead_2 ?_
  refine V_aload_n X dX10_ahead_5 0 rfl ?_
  refine V_iload_n X dX10_ahead_6 1 rfl ?_
  refine V_iconst X dX10_ahead_7 ?_
  obtain ⟨c8, hc8, h⟩ := bind_some_eq h
  refine V_callV (As := [vI l1, vI 1]) (rest := []) (s1 := [vI c8.1]) (o := 0) X (con_m_isDeed (sI g 900 0 0) l1 1 c8 hc8) gwX10_isDeed hdX10_isDeed (by decide) rfl (by decide) rfl rfl rfl (Nat.le_of_ble_eq_true rfl) ⟨Nat.zero_le _, Nat.zero_le _⟩ dX10_ahead_8 rfl rfl ?_
  refine V_if_ne (tgt := 16) X dX10_ahead_11 (by decide) h (fun h => ?_) (fun h => ?_)
  · refine V_aload_n X dX10_ahead_16 0 rfl ?_
    refine getX10 X (o := 0) (j := 17) rfl (by decide) q1565 (fv_1 (i := 10) rfl rfl) dX10_ahead_17 ?_
    refine V_iconst X dX10_ahead_20 ?_
    refine V_iload_n X dX10_ahead_21 1 rfl ?_
    refine V_imul X dX10_ahead_22 ?_
    refine V_iconst X dX10_ahead_23 ?_
    refine V_iadd X dX10_ahead_24 ?_
    refine V_iald X (o := 10) (n := 60) rfl (by decide) dX10_ahead_25 h (fun v25 h => ?_)
    refine V_istore_n X dX10_ahead_26 (by decide) (L' := [(2, vI v25), (0, .ref (xb x + 0)), (1, vI l1)]) rfl ?_
    refine V_iload_n X dX10_ahead_27 2 rfl ?_
    refine V_iconst X dX10_ahead_28 ?_
    refine V_isub X dX10_ahead_29 ?_
    refine V_istore_n X dX10_ahead_30 (by decide) (L' := [(3, vI (l1 - 1)), (2, vI v25), (0, .ref (xb x + 0)), (1, vI l1)]) rfl ?_
    exact V_sub [2, 1, 0] rfl (LL31 c8.2 N (v25, (l1 - 1)) _ h rfl)
  · refine V_iconst X dX10_ahead_14 ?_
    have hr := Option.some.inj h
    subst hr
    exact V_end_i hX rfl dX10_ahead_15
set_option maxHeartbeats 4000000 in
theorem con_m_chain (N : Nat) (g : GS) (l1 : Int) (r : (Int × GS)) (h : m_chain N g l1 = some r) : Con yX10_chain cX10_chain 5 (some .int) 3 57 Km (fun b => [.ref (b + 0), vI l1]) g (fun _ => some (vI r.1)) r.2 := by
  refine Con.of RX10 (by decide) rfl (fun b => Nat.le_of_ble_eq_true rfl) (fun x sz hX => ?_)
  have X := hX.1
  have LL18 : ∀ (l1 : Int) (n : Nat) (s : (GS × Int)) (e : (GS)), loopN (fun s => m_chain_b18 N l1 s.1 s.2) n s = some e → V x 5 Km 0 0 sz e 106 [(0, .ref (xb x + 0)), (1, vI l1)] [] → V x 5 Km 0 0 sz s.1 18 [(0, .ref (xb x + 0)), (1, vI l1), (2, vI s.2)] [] := by
    intro l1 n s e
    refine loop_walk (P := fun s => V x 5 Km 0 0 sz s.1 18 [(0, .ref (xb x + 0)), (1, vI l1), (2, vI s.2)] []) (E := fun e => V x 5 Km 0 0 sz e 106 [(0, .ref (xb x + 0)), (1, vI l1)] []) ?_ n s e
    clear e s n
    rintro ⟨g, l2⟩ q18 h hc18 he18
    replace h : m_chain_b18 N l1 g l2 = some q18 := h
    have LL28 : ∀ (g : GS) (l2 : Int) (n : Nat) (s : (Int × Int)) (e : (Int)), loopN (fun s => m_chain_b28 N g l1 l2 s.1 s.2) n s = some e → V x 5 Km 0 0 sz g 82 [(0, .ref (xb x + 0)), (1, vI l1), (2, vI l2), (3, vI e)] [] → V x 5 Km 0 0 sz g 28 [(0, .ref (xb x + 0)), (1, vI l1), (2, vI l2), (3, vI s.1), (4, vI s.2)] [] := by
      intro g l2 n s e
      refine loop_walk (P := fun s => V x 5 Km 0 0 sz g 28 [(0, .ref (xb x + 0)), (1, vI l1), (2, vI l2), (3, vI s.1), (4, vI s.2)] []) (E := fun e => V x 5 Km 0 0 sz g 82 [(0, .ref (xb x + 0)), (1, vI l1), (2, vI l2), (3, vI e)] []) ?_ n s e
      clear e s n
      rintro ⟨l3, l4⟩ q28 h hc28 he28
      replace h : m_chain_b28 N g l1 l2 l3 l4 = some q28 := h
      have J75 : ∀ (l4 : Int) (s0 : Int), m_chain_j75 N g l1 l2 l4 s0 = some q28 → V x 5 Km 0 0 sz g 75 [(0, .ref (xb x + 0)), (1, vI l1), (2, vI l2), (4, vI l4)] [vI s0] := by
        intro l4 s0 h
        unfold m_chain_j75 at h
        refine V_istore_n X dX10_chain_75 (by decide) (L' := [(3, vI s0), (0, .ref (xb x + 0)), (1, vI l1), (2, vI l2), (4, vI l4)]) rfl ?_
        refine V_iinc X dX10_chain_76 4 rfl (by decide) (L' := [(4, vI (l4 + 1)), (3, vI s0), (0, .ref (xb x + 0)), (1, vI l1), (2, vI l2)]) rfl ?_
        refine V_goto (tgt := 28) X dX10_chain_79 (by decide) ?_
        exact V_sub [2, 3, 4, 1, 0] rfl (hc28 _ (Option.some.inj h).symm)
      have J74 : ∀ (l3 : Int) (l4 : Int), m_chain_j74 N g l1 l2 l3 l4 = some q28 → V x 5 Km 0 0 sz g 74 [(0, .ref (xb x + 0)), (1, vI l1), (2, vI l2), (3, vI l3), (4, vI l4)] [] := by
        intro l3 l4 h
        unfold m_chain_j74 at h
        refine V_iload_n X dX10_chain_74 3 rfl ?_
        exact V_sub [0, 1, 2, 4] rfl (J75 _ _ h)
      unfold m_chain_b28 at h
      show V x 5 Km 0 0 sz g 28 [(0, .ref (xb x + 0)), (1, vI l1), (2, vI l2), (3, vI l3), (4, vI l4)] []
      refine V_iload X dX10_chain_28 4 rfl ?_
      refine V_iload_n X dX10_chain_30 2 rfl ?_
      refine V_icmp_ge (tgt := 82) X dX10_chain_31 (by decide) h (fun h => ?_) (fun h => ?_)
      · exact V_sub [0, 1, 2, 3] rfl (he28 _ (Option.some.inj h).symm)
      · refine V_aload_n X dX10_chain_34 0 rfl ?_
        refine getX10 X (o := 0) (j := 17) rfl (by decide) q1565 (fv_1 (i := 10) rfl rfl) dX10_chain_35 ?_
        refine V_iconst X dX10_chain_38 ?_
        refine V_iload_n X dX10_chain_39 2 rfl ?_
        refine V_imul X dX10_chain_40 ?_
        refine V_iconst X dX10_chain_41 ?_
        refine V_iadd X dX10_chain_42 ?_
        refine V_iald X (o := 10) (n := 60) rfl (by decide) dX10_chain_43 h (fun v43 h => ?_)
        refine V_iload X dX10_chain_44 4 rfl ?_
        refine V_ishr X dX10_chain_46 ?_
        refine V_iconst X dX10_chain_47 ?_
        refine V_iand X dX10_chain_48 ?_
        refine V_iconst X dX10_chain_49 ?_
        refine V_icmp_ne (tgt := 74) X dX10_chain_50 (by decide) h (fun h => ?_) (fun h => ?_)
        · exact V_sub [0, 1, 2, 3, 4] rfl (J74 _ _ h)
        · refine V_aload_n X dX10_chain_53 0 rfl ?_
          refine getX10 X (o := 0) (j := 59) rfl (by decide) q1607 (fv_1 (i := 36) rfl rfl) dX10_chain_54 ?_
          refine V_iload X dX10_chain_57 4 rfl ?_
          refine V_iald X (o := 36) (n := 12) rfl (by decide) dX10_chain_59 h (fun v59 h => ?_)
          refine V_iload_n X dX10_chain_60 3 rfl ?_
          refine V_icmp_le (tgt := 74) X dX10_chain_61 (by decide) h (fun h => ?_) (fun h => ?_)
          · exact V_sub [0, 1, 2, 3, 4] rfl (J74 _ _ h)
          · refine V_aload_n X dX10_chain_64 0 rfl ?_
            refine getX10 X (o := 0) (j := 59) rfl (by decide) q1607 (fv_1 (i := 36) rfl rfl) dX10_chain_65 ?_
            refine V_iload X dX10_chain_68 4 rfl ?_
            refine V_iald X (o := 36) (n := 12) rfl (by decide) dX10_chain_70 h (fun v70 h => ?_)
            refine V_goto (tgt := 75) X dX10_chain_71 (by decide) ?_
            exact V_sub [0, 1, 2, 4] rfl (J75 _ _ h)
    unfold m_chain_b18 at h
    show V x 5 Km 0 0 sz g 18 [(0, .ref (xb x + 0)), (1, vI l1), (2, vI l2)] []
    refine V_iload_n X dX10_chain_18 2 rfl ?_
    refine V_iload_n X dX10_chain_19 1 rfl ?_
    refine V_icmp_gt (tgt := 106) X dX10_chain_20 (by decide) h (fun h => ?_) (fun h => ?_)
    · exact V_sub [0, 1] rfl (he18 _ (Option.some.inj h).symm)
    · refine V_iconst X dX10_chain_23 ?_
      refine V_istore_n X dX10_chain_24 (by decide) (L' := [(3, vI 0), (0, .ref (xb x + 0)), (1, vI l1), (2, vI l2)]) rfl ?_
      refine V_iconst X dX10_chain_25 ?_
      refine V_istore X dX10_chain_26 (by decide) (L' := [(4, vI 0), (3, vI 0), (0, .ref (xb x + 0)), (1, vI l1), (2, vI l2)]) rfl ?_
      obtain ⟨t1, t1q, h⟩ := bind_some_eq h
      refine V_sub [2, 3, 4, 1, 0] rfl (LL28 g l2 N (0, 0) _ t1q ?_)
      refine V_aload_n X dX10_chain_82 0 rfl ?_
      refine getX10 X (o := 0) (j := 59) rfl (by decide) q1607 (fv_1 (i := 36) rfl rfl) dX10_chain_83 ?_
      refine V_iload_n X dX10_chain_86 2 rfl ?_
      refine V_aload_n X dX10_chain_87 0 rfl ?_
      refine getX10 X (o := 0) (j := 17) rfl (by decide) q1565 (fv_1 (i := 10) rfl rfl) dX10_chain_88 ?_
      refine V_iconst X dX10_chain_91 ?_
      refine V_iload_n X dX10_chain_92 2 rfl ?_
      refine V_imul X dX10_chain_93 ?_
      refine V_iconst X dX10_chain_94 ?_
      refine V_iadd X dX10_chain_95 ?_
      refine V_iald X (o := 10) (n := 60) rfl (by decide) dX10_chain_96 h (fun v96 h => ?_)
      refine V_iload_n X dX10_chain_97 3 rfl ?_
      refine V_iadd X dX10_chain_98 ?_
      refine V_iast X (o := 36) (n := 12) rfl (by decide) dX10_chain_99 h (fun g99 h => ?_)
      refine V_iinc X dX10_chain_100 2 rfl (by decide) (L' := [(2, vI (l2 + 1)), (0, .ref (xb x + 0)), (1, vI l1), (3, vI t1)]) rfl ?_
      refine V_goto (tgt := 18) X dX10_chain_103 (by decide) ?_
      exact V_sub [1, 2, 0] rfl (hc18 _ (Option.some.inj h).symm)
  unfold m_chain at h
  show V x 5 Km 0 0 sz g 0 [(0, .ref (xb x + 0)), (1, vI l1)] []
  refine V_aload_n X dX10_chain_0 0 rfl ?_
  refine V_iconst X dX10_chain_1 ?_
  refine putX10 X (o := 0) (j := 0) (a := 0) rfl (by decide) rfl rfl rfl q1548 dX10_chain_2 ?_
  refine V_aload_n X dX10_chain_5 0 rfl ?_
  refine V_iload_n X dX10_chain_6 1 rfl ?_
  refine V_iconst X dX10_chain_7 ?_
  obtain ⟨c8, hc8, h⟩ := bind_some_eq h
  refine V_callV (As := [vI l1, vI 1]) (rest := []) (s1 := [vI c8.1]) (o := 0) X (con_m_isDeed (sI g 900 0 0) l1 1 c8 hc8) gwX10_isDeed hdX10_isDeed (by decide) rfl (by decide) rfl rfl rfl (Nat.le_of_ble_eq_true rfl) ⟨Nat.zero_le _, Nat.zero_le _⟩ dX10_chain_8 rfl rfl ?_
  refine V_if_ne (tgt := 16) X dX10_chain_11 (by decide) h (fun h => ?_) (fun h => ?_)
  · refine V_iconst X dX10_chain_16 ?_
    refine V_istore_n X dX10_chain_17 (by decide) (L' := [(2, vI 0), (0, .ref (xb x + 0)), (1, vI l1)]) rfl ?_
    obtain ⟨t2, t2q, h⟩ := bind_some_eq h
    refine V_sub [1, 2, 0] rfl (LL18 l1 N (c8.2, 0) _ t2q ?_)
    refine V_aload_n X dX10_chain_106 0 rfl ?_
    refine getX10 X (o := 0) (j := 59) rfl (by decide) q1607 (fv_1 (i := 36) rfl rfl) dX10_chain_107 ?_
    refine V_iload_n X dX10_chain_110 1 rfl ?_
    refine V_iald X (o := 36) (n := 12) rfl (by decide) dX10_chain_111 h (fun v111 h => ?_)
    have hr := Option.some.inj h
    subst hr
    exact V_end_i hX rfl dX10_chain_112
  · refine V_iconst X dX10_chain_14 ?_
    have hr := Option.some.inj h
    subst hr
    exact V_end_i hX rfl dX10_chain_15
set_option maxHeartbeats 4000000 in
theorem con_m_plansOn_F (N : Nat) (fr lo : Nat) (R_plansOn : GS → Int → Int → Int → Int → Option GS) (H_plansOn : ∀ (g : GS) (a0 a1 a2 a3 : Int) (r : GS), R_plansOn g a0 a1 a2 a3 = some r → Con yX10_plansOn cX10_plansOn 11 none fr lo Km (fun b => [.ref (b + 0), vI a0, vI a1, vI a2, vI a3]) g (fun _ => none) r) (g : GS) (l1 : Int) (l2 : Int) (l3 : Int) (l4 : Int) (r : GS) (h : m_plansOn_F N R_plansOn g l1 l2 l3 l4 = some r) : Con yX10_plansOn cX10_plansOn 11 none (fr + 6) (lo + 142) Km (fun b => [.ref (b + 0), vI l1, vI l2, vI l3, vI l4]) g (fun _ => none) r := by
  refine Con.of RX10 (by decide) rfl (fun b => Nat.le_of_ble_eq_true rfl) (fun x sz hX => ?_)
  have X := hX.1
  have LL96 : ∀ (l1 : Int) (l2 : Int) (l3 : Int) (l4 : Int) (n : Nat) (s : (GS × Int)) (e : GS), loopN (fun s => m_plansOn_F_b96 N R_plansOn l1 l2 l3 l4 s.1 s.2) n s = some e → (e = r) → V x 11 Km 0 0 sz s.1 96 [(0, .ref (xb x + 0)), (1, vI l1), (2, vI l2), (3, vI l3), (4, vI l4), (5, vI s.2)] [] := by
    intro l1 l2 l3 l4 n s e
    refine loop_walk (P := fun s => V x 11 Km 0 0 sz s.1 96 [(0, .ref (xb x + 0)), (1, vI l1), (2, vI l2), (3, vI l3), (4, vI l4), (5, vI s.2)] []) (E := fun e => e = r) ?_ n s e
    clear e s n
    rintro ⟨g, l5⟩ q96 h hc96 he96
    replace h : m_plansOn_F_b96 N R_plansOn l1 l2 l3 l4 g l5 = some q96 := h
    have LL139 : ∀ (l5 : Int) (n : Nat) (s : (GS × Int)) (e : (GS)), loopN (fun s => m_plansOn_F_b139 N R_plansOn l1 l2 l3 l4 l5 s.1 s.2) n s = some e → V x 11 Km 0 0 sz e 363 [(0, .ref (xb x + 0)), (1, vI l1), (2, vI l2), (3, vI l3), (4, vI l4), (5, vI l5)] [] → V x 11 Km 0 0 sz s.1 139 [(0, .ref (xb x + 0)), (1, vI l1), (2, vI l2), (3, vI l3), (4, vI l4), (5, vI l5), (6, vI s.2)] [] := by
      intro l5 n s e
      refine loop_walk (P := fun s => V x 11 Km 0 0 sz s.1 139 [(0, .ref (xb x + 0)), (1, vI l1), (2, vI l2), (3, vI l3), (4, vI l4), (5, vI l5), (6, vI s.2)] []) (E := fun e => V x 11 Km 0 0 sz e 363 [(0, .ref (xb x + 0)), (1, vI l1), (2, vI l2), (3, vI l3), (4, vI l4), (5, vI l5)] []) ?_ n s e
      clear e s n
      rintro ⟨g, l6⟩ q139 h hc139 he139
      replace h : m_plansOn_F_b139 N R_plansOn l1 l2 l3 l4 l5 g l6 = some q139 := h
      have LL327 : ∀ (l6 : Int) (n : Nat) (s : (GS × Int)) (e : (GS)), loopN (fun s => m_plansOn_F_b327 N R_plansOn l1 l2 l3 l4 l5 l6 s.1 s.2) n s = some e → V x 11 Km 0 0 sz e 357 [(0, .ref (xb x + 0)), (1, vI l1), (2, vI l2), (3, vI l3), (4, vI l4), (5, vI l5), (6, vI l6)] [] → V x 11 Km 0 0 sz s.1 327 [(0, .ref (xb x + 0)), (1, vI l1), (2, vI l2), (3, vI l3), (4, vI l4), (5, vI l5), (6, vI l6), (10, vI s.2)] [] := by
        intro l6 n s e
        refine loop_walk (P := fun s => V x 11 Km 0 0 sz s.1 327 [(0, .ref (xb x + 0)), (1, vI l1), (2, vI l2), (3, vI l3), (4, vI l4), (5, vI l5), (6, vI l6), (10, vI s.2)] []) (E := fun e => V x 11 Km 0 0 sz e 357 [(0, .ref (xb x + 0)), (1, vI l1), (2, vI l2), (3, vI l3), (4, vI l4), (5, vI l5), (6, vI l6)] []) ?_ n s e
        clear e s n
        rintro ⟨g, l10⟩ q327 h hc327 he327
        replace h : m_plansOn_F_b327 N R_plansOn l1 l2 l3 l4 l5 l6 g l10 = some q327 := h
        unfold m_plansOn_F_b327 at h
        show V x 11 Km 0 0 sz g 327 [(0, .ref (xb x + 0)), (1, vI l1), (2, vI l2), (3, vI l3), (4, vI l4), (5, vI l5), (6, vI l6), (10, vI l10)] []
        refine V_iload X dX10_plansOn_327 7 rfl ?_
        refine V_iconst X dX10_plansOn_329 ?_
        refine V_icmp_ge (tgt := 357) X dX10_plansOn_330 (by decide) h (fun h => ?_) (fun h => ?_)
        · exact V_sub [0, 1, 2, 3, 4, 5, 6] rfl (he327 _ (Option.some.inj h).symm)
        · refine V_aload_n X dX10_plansOn_333 0 rfl ?_
          refine getX10 X (o := 0) (j := 53) rfl (by decide) q1601 (fv_1 (i := 31) rfl rfl) dX10_plansOn_334 ?_
          refine V_iload X dX10_plansOn_337 7 rfl ?_
          refine V_aload_n X dX10_plansOn_339 0 rfl ?_
          refine getX10 X (o := 0) (j := 60) rfl (by decide) q1608 (fv_1 (i := 37) rfl rfl) dX10_plansOn_340 ?_
          refine V_iconst X dX10_plansOn_343 ?_
          refine V_iload_n X dX10_plansOn_344 1 rfl ?_
          refine V_imul X dX10_plansOn_345 ?_
          refine V_iload X dX10_plansOn_346 7 rfl ?_
          refine V_iadd X dX10_plansOn_348 ?_
          refine V_iald X (o := 37) (n := 24) rfl (by decide) dX10_plansOn_349 h (fun v349 h => ?_)
          refine V_iast X (o := 31) (n := 4) rfl (by decide) dX10_plansOn_350 h (fun g350 h => ?_)
          refine V_iinc X dX10_plansOn_351 7 rfl (by decide) (L' := [(10, vI (l10 + 1)), (0, .ref (xb x + 0)), (1, vI l1), (2, vI l2), (3, vI l3), (4, vI l4), (5, vI l5), (6, vI l6)]) rfl ?_
          refine V_goto (tgt := 327) X dX10_plansOn_354 (by decide) ?_
          exact V_sub [1, 2, 3, 4, 5, 6, 7, 0] rfl (hc327 _ (Option.some.inj h).symm)
      have J316 : ∀ (g : GS) (l6 : Int) (l9 : Int) (s0 : Int) (s1 : Int) (s2 : Int), m_plansOn_F_j316 N R_plansOn g l1 l2 l3 l4 l5 l6 l9 s0 s1 s2 = some q139 → V x 11 Km 0 0 sz g 316 [(0, .ref (xb x + 0)), (1, vI l1), (2, vI l2), (3, vI l3), (4, vI l4), (5, vI l5), (6, vI l6), (9, vI l9)] [vI s0, vI s1, vI s2, .ref (xb x + 0)] := by
        intro g l6 l9 s0 s1 s2 h
        unfold m_plansOn_F_j316 at h
        refine V_iload X dX10_plansOn_316 4 rfl ?_
        refine V_iload X dX10_plansOn_318 7 rfl ?_
        refine V_iadd X dX10_plansOn_320 ?_
        obtain ⟨c321, hc321, h⟩ := bind_some_eq h
        refine V_callV (As := [vI s2, vI s1, vI s0, vI (l4 + l9)]) (rest := []) (s1 := []) (o := 0) X (H_plansOn g s2 s1 s0 (l4 + l9) c321 hc321) gwX10_plansOn hdX10_plansOn ⟨by dsimp only; omega, by dsimp only; omega⟩ rfl (by decide) rfl rfl rfl (Nat.le_of_ble_eq_true rfl) ⟨Nat.zero_le _, Nat.zero_le _⟩ dX10_plansOn_321 rfl rfl ?_
        refine V_iconst X dX10_plansOn_324 ?_
        refine V_istore X dX10_plansOn_325 (by decide) (L' := [(10, vI 0), (0, .ref (xb x + 0)), (1, vI l1), (2, vI l2), (3, vI l3), (4, vI l4), (5, vI l5), (6, vI l6), (9, vI l9)]) rfl ?_
        obtain ⟨t1, t1q, h⟩ := bind_some_eq h
        refine V_sub [1, 2, 3, 4, 5, 6, 7, 0] rfl (LL327 l6 N (c321, 0) _ t1q ?_)
        refine V_iinc X dX10_plansOn_357 6 rfl (by decide) (L' := [(6, vI (l6 + 1)), (0, .ref (xb x + 0)), (1, vI l1), (2, vI l2), (3, vI l3), (4, vI l4), (5, vI l5)]) rfl ?_
        refine V_goto (tgt := 139) X dX10_plansOn_360 (by decide) ?_
        exact V_sub [1, 2, 3, 4, 5, 6, 0] rfl (hc139 _ (Option.some.inj h).symm)
      have LL228 : ∀ (l6 : Int) (l8 : Int) (l9 : Int) (n : Nat) (s : (GS × Int)) (e : (GS)), loopN (fun s => m_plansOn_F_b228 N R_plansOn l1 l2 l3 l4 l5 l6 l8 l9 s.1 s.2) n s = some e → V x 11 Km 0 0 sz e 263 [(0, .ref (xb x + 0)), (1, vI l1), (2, vI l2), (3, vI l3), (4, vI l4), (5, vI l5), (6, vI l6), (8, vI l8), (9, vI l9)] [] → V x 11 Km 0 0 sz s.1 228 [(0, .ref (xb x + 0)), (1, vI l1), (2, vI l2), (3, vI l3), (4, vI l4), (5, vI l5), (6, vI l6), (8, vI l8), (9, vI l9), (10, vI s.2)] [] := by
        intro l6 l8 l9 n s e
        refine loop_walk (P := fun s => V x 11 Km 0 0 sz s.1 228 [(0, .ref (xb x + 0)), (1, vI l1), (2, vI l2), (3, vI l3), (4, vI l4), (5, vI l5), (6, vI l6), (8, vI l8), (9, vI l9), (10, vI s.2)] []) (E := fun e => V x 11 Km 0 0 sz e 263 [(0, .ref (xb x + 0)), (1, vI l1), (2, vI l2), (3, vI l3), (4, vI l4), (5, vI l5), (6, vI l6), (8, vI l8), (9, vI l9)] []) ?_ n s e
        clear e s n
        rintro ⟨g, l10⟩ q228 h hc228 he228
        replace h : m_plansOn_F_b228 N R_plansOn l1 l2 l3 l4 l5 l6 l8 l9 g l10 = some q228 := h
        unfold m_plansOn_F_b228 at h
        show V x 11 Km 0 0 sz g 228 [(0, .ref (xb x + 0)), (1, vI l1), (2, vI l2), (3, vI l3), (4, vI l4), (5, vI l5), (6, vI l6), (8, vI l8), (9, vI l9), (10, vI l10)] []
        refine V_iload X dX10_plansOn_228 9 rfl ?_
        refine V_aload_n X dX10_plansOn_230 0 rfl ?_
        refine getX10 X (o := 0) (j := 32) rfl (by decide) q1580 (fv_0 rfl) dX10_plansOn_231 ?_
        refine V_icmp_ge (tgt := 263) X dX10_plansOn_234 (by decide) h (fun h => ?_) (fun h => ?_)
        · exact V_sub [0, 1, 2, 3, 4, 5, 6, 7, 8] rfl (he228 _ (Option.some.inj h).symm)
        · refine V_iload X dX10_plansOn_237 6 rfl ?_
          refine V_iload X dX10_plansOn_239 9 rfl ?_
          refine V_ishr X dX10_plansOn_241 ?_
          refine V_iconst X dX10_plansOn_242 ?_
          refine V_iand X dX10_plansOn_243 ?_
          refine V_iconst X dX10_plansOn_244 ?_
          refine V_icmp_ne (tgt := 257) X dX10_plansOn_245 (by decide) h (fun h => ?_) (fun h => ?_)
          · refine V_iinc X dX10_plansOn_257 9 rfl (by decide) (L' := [(10, vI (l10 + 1)), (0, .ref (xb x + 0)), (1, vI l1), (2, vI l2), (3, vI l3), (4, vI l4), (5, vI l5), (6, vI l6), (8, vI l8), (9, vI l9)]) rfl ?_
            refine V_goto (tgt := 228) X dX10_plansOn_260 (by decide) ?_
            exact V_sub [1, 2, 3, 4, 5, 6, 7, 8, 9, 0] rfl (hc228 _ (Option.some.inj h).symm)
          · refine V_aload_n X dX10_plansOn_248 0 rfl ?_
            refine getX10 X (o := 0) (j := 53) rfl (by decide) q1601 (fv_1 (i := 31) rfl rfl) dX10_plansOn_249 ?_
            refine V_iload X dX10_plansOn_252 9 rfl ?_
            refine V_iload X dX10_plansOn_254 7 rfl ?_
            refine V_iast X (o := 31) (n := 4) rfl (by decide) dX10_plansOn_256 h (fun g256 h => ?_)
            refine V_iinc X dX10_plansOn_257 9 rfl (by decide) (L' := [(10, vI (l10 + 1)), (0, .ref (xb x + 0)), (1, vI l1), (2, vI l2), (3, vI l3), (4, vI l4), (5, vI l5), (6, vI l6), (8, vI l8), (9, vI l9)]) rfl ?_
            refine V_goto (tgt := 228) X dX10_plansOn_260 (by decide) ?_
            exact V_sub [1, 2, 3, 4, 5, 6, 7, 8, 9, 0] rfl (hc228 _ (Option.some.inj h).symm)
      have J223 : ∀ (g : GS) (l6 : Int) (l8 : Int) (s0 : Int), m_plansOn_F_j223 N R_plansOn g l1 l2 l3 l4 l5 l6 l8 s0 = some q139 → V x 11 Km 0 0 sz g 223 [(0, .ref (xb x + 0)), (1, vI l1), (2, vI l2), (3, vI l3), (4, vI l4), (5, vI l5), (6, vI l6), (8, vI l8)] [vI s0] := by
        intro g l6 l8 s0 h
        unfold m_plansOn_F_j223 at h
        refine V_istore X dX10_plansOn_223 (by decide) (L' := [(9, vI s0), (0, .ref (xb x + 0)), (1, vI l1), (2, vI l2), (3, vI l3), (4, vI l4), (5, vI l5), (6, vI l6), (8, vI l8)]) rfl ?_
        refine V_iconst X dX10_plansOn_225 ?_
        refine V_istore X dX10_plansOn_226 (by decide) (L' := [(10, vI 0), (9, vI s0), (0, .ref (xb x + 0)), (1, vI l1), (2, vI l2), (3, vI l3), (4, vI l4), (5, vI l5), (6, vI l6), (8, vI l8)]) rfl ?_
        obtain ⟨t2, t2q, h⟩ := bind_some_eq h
        refine V_sub [2, 3, 4, 5, 6, 7, 8, 9, 1, 0] rfl (LL228 l6 l8 s0 N (g, 0) _ t2q ?_)
        refine V_aload_n X dX10_plansOn_263 0 rfl ?_
        refine getX10 X (o := 0) (j := 54) rfl (by decide) q1602 (fv_1 (i := 32) rfl rfl) dX10_plansOn_264 ?_
        refine V_iload X dX10_plansOn_267 5 rfl ?_
        refine V_iload X dX10_plansOn_269 7 rfl ?_
        refine V_iast X (o := 32) (n := 12) rfl (by decide) dX10_plansOn_271 h (fun g271 h => ?_)
        refine V_aload_n X dX10_plansOn_272 0 rfl ?_
        refine getX10 X (o := 0) (j := 62) rfl (by decide) q1610 (fv_1 (i := 39) rfl rfl) dX10_plansOn_273 ?_
        refine V_iconst X dX10_plansOn_276 ?_
        refine V_iload_n X dX10_plansOn_277 1 rfl ?_
        refine V_imul X dX10_plansOn_278 ?_
        refine V_iload X dX10_plansOn_279 5 rfl ?_
        refine V_iast X (o := 39) (n := 10) rfl (by decide) dX10_plansOn_281 h (fun g281 h => ?_)
        refine V_aload_n X dX10_plansOn_282 0 rfl ?_
        refine getX10 X (o := 0) (j := 62) rfl (by decide) q1610 (fv_1 (i := 39) rfl rfl) dX10_plansOn_283 ?_
        refine V_iconst X dX10_plansOn_286 ?_
        refine V_iload_n X dX10_plansOn_287 1 rfl ?_
        refine V_imul X dX10_plansOn_288 ?_
        refine V_iconst X dX10_plansOn_289 ?_
        refine V_iadd X dX10_plansOn_290 ?_
        refine V_iload X dX10_plansOn_291 6 rfl ?_
        refine V_iast X (o := 39) (n := 10) rfl (by decide) dX10_plansOn_293 h (fun g293 h => ?_)
        refine V_aload_n X dX10_plansOn_294 0 rfl ?_
        refine V_iload_n X dX10_plansOn_295 1 rfl ?_
        refine V_iconst X dX10_plansOn_296 ?_
        refine V_iadd X dX10_plansOn_297 ?_
        refine V_iload_n X dX10_plansOn_298 2 rfl ?_
        refine V_iconst X dX10_plansOn_299 ?_
        refine V_iload X dX10_plansOn_300 5 rfl ?_
        refine V_ishl X dX10_plansOn_302 ?_
        refine V_ior X dX10_plansOn_303 ?_
        refine V_iload X dX10_plansOn_304 7 rfl ?_
        refine V_iload_n X dX10_plansOn_306 3 rfl ?_
        refine V_icmp_le (tgt := 315) X dX10_plansOn_307 (by decide) h (fun h => ?_) (fun h => ?_)
        · refine V_iload_n X dX10_plansOn_315 3 rfl ?_
          exact V_sub [0, 1, 2, 3, 4, 5, 6, 8] rfl (J316 _ _ _ _ _ _ h)
        · refine V_iload X dX10_plansOn_310 7 rfl ?_
          refine V_goto (tgt := 316) X dX10_plansOn_312 (by decide) ?_
          exact V_sub [0, 1, 2, 3, 4, 5, 6, 8] rfl (J316 _ _ _ _ _ _ h)
      unfold m_plansOn_F_b139 at h
      show V x 11 Km 0 0 sz g 139 [(0, .ref (xb x + 0)), (1, vI l1), (2, vI l2), (3, vI l3), (4, vI l4), (5, vI l5), (6, vI l6)] []
      refine V_iload X dX10_plansOn_139 6 rfl ?_
      refine V_iconst X dX10_plansOn_141 ?_
      refine V_aload_n X dX10_plansOn_142 0 rfl ?_
      refine getX10 X (o := 0) (j := 32) rfl (by decide) q1580 (fv_0 rfl) dX10_plansOn_143 ?_
      refine V_ishl X dX10_plansOn_146 ?_
      refine V_icmp_ge (tgt := 363) X dX10_plansOn_147 (by decide) h (fun h => ?_) (fun h => ?_)
      · exact V_sub [0, 1, 2, 3, 4, 5] rfl (he139 _ (Option.some.inj h).symm)
      · refine V_aload_n X dX10_plansOn_150 0 rfl ?_
        refine V_iload X dX10_plansOn_151 5 rfl ?_
        refine V_iload X dX10_plansOn_153 6 rfl ?_
        obtain ⟨c155, hc155, h⟩ := bind_some_eq h
        refine V_callV (As := [vI l5, vI l6]) (rest := []) (s1 := [vI c155]) (o := 0) X (con_m_mayDo N g l5 l6 c155 hc155) gwX10_mayDo hdX10_mayDo ⟨by dsimp only; omega, by dsimp only; omega⟩ rfl (by decide) rfl rfl rfl (Nat.le_of_ble_eq_true rfl) ⟨Nat.zero_le _, Nat.zero_le _⟩ dX10_plansOn_155 rfl rfl ?_
        refine V_if_ne (tgt := 164) X dX10_plansOn_158 (by decide) h (fun h => ?_) (fun h => ?_)
        · refine V_aload_n X dX10_plansOn_164 0 rfl ?_
          refine V_iload X dX10_plansOn_165 5 rfl ?_
          refine V_iload X dX10_plansOn_167 6 rfl ?_
          obtain ⟨c169, hc169, h⟩ := bind_some_eq h
          refine V_callV (As := [vI l5, vI l6]) (rest := []) (s1 := [vI c169]) (o := 0) X (con_m_beginOf N g l5 l6 c169 hc169) gwX10_beginOf hdX10_beginOf ⟨by dsimp only; omega, by dsimp only; omega⟩ rfl (by decide) rfl rfl rfl (Nat.le_of_ble_eq_true rfl) ⟨Nat.zero_le _, Nat.zero_le _⟩ dX10_plansOn_169 rfl rfl ?_
          refine V_istore X dX10_plansOn_172 (by decide) (L' := [(7, vI c169), (0, .ref (xb x + 0)), (1, vI l1), (2, vI l2), (3, vI l3), (4, vI l4), (5, vI l5), (6, vI l6)]) rfl ?_
          refine V_iload X dX10_plansOn_174 0 rfl ?_
          refine V_aload_n X dX10_plansOn_176 1 rfl ?_
          refine V_iload X dX10_plansOn_177 6 rfl ?_
          refine V_iload X dX10_plansOn_179 7 rfl ?_
          refine V_iload X dX10_plansOn_181 0 rfl ?_
          obtain ⟨c183, hc183, h⟩ := bind_some_eq h
          refine V_callV (As := [vI l5, vI l6, vI c169]) (rest := [vI c169]) (s1 := [vI c183.1, vI c169]) (o := 0) X (con_m_lastsOf N g l5 l6 c169 c183 hc183) gwX10_lastsOf hdX10_lastsOf ⟨by dsimp only; omega, by dsimp only; omega⟩ rfl (by decide) rfl rfl rfl (Nat.le_of_ble_eq_true rfl) ⟨Nat.zero_le _, Nat.zero_le _⟩ dX10_plansOn_183 rfl rfl ?_
          refine V_iadd X dX10_plansOn_186 ?_
          refine V_istore X dX10_plansOn_187 (by decide) (L' := [(8, vI (c169 + c183.1)), (7, vI c169), (0, .ref (xb x + 0)), (1, vI l1), (2, vI l2), (3, vI l3), (4, vI l4), (5, vI l5), (6, vI l6)]) rfl ?_
          refine V_aload_n X dX10_plansOn_189 2 rfl ?_
          refine getX10 X (o := 0) (j := 17) rfl (by decide) q1565 (fv_1 (i := 10) rfl rfl) dX10_plansOn_190 ?_
          refine V_iconst X dX10_plansOn_193 ?_
          refine V_iload X dX10_plansOn_194 7 rfl ?_
          refine V_imul X dX10_plansOn_196 ?_
          refine V_iconst X dX10_plansOn_197 ?_
          refine V_iadd X dX10_plansOn_198 ?_
          refine V_iald X (o := 10) (n := 60) rfl (by decide) dX10_plansOn_199 h (fun v199 h => ?_)
          refine V_iconst X dX10_plansOn_200 ?_
          refine V_icmp_ne (tgt := 222) X dX10_plansOn_201 (by decide) h (fun h => ?_) (fun h => ?_)
          · refine V_iconst X dX10_plansOn_222 ?_
            exact V_sub [2, 3, 4, 5, 6, 7, 8, 0] rfl (J223 _ _ _ _ h)
          · refine V_aload_n X dX10_plansOn_204 2 rfl ?_
            refine V_iload X dX10_plansOn_205 8 rfl ?_
            obtain ⟨c207, hc207, h⟩ := bind_some_eq h
            refine V_callV (As := [vI l6]) (rest := []) (s1 := [vI c207]) (o := 0) X (con_m_onesOf N c183.2 l6 c207 hc207) gwX10_onesOf hdX10_onesOf ⟨by dsimp only; omega, by dsimp only; omega⟩ rfl (by decide) rfl rfl rfl (Nat.le_of_ble_eq_true rfl) ⟨Nat.zero_le _, Nat.zero_le _⟩ dX10_plansOn_207 rfl rfl ?_
            refine V_aload_n X dX10_plansOn_210 2 rfl ?_
            refine V_iload X dX10_plansOn_211 1 rfl ?_
            refine V_iload X dX10_plansOn_213 0 rfl ?_
            obtain ⟨c215, hc215, h⟩ := bind_some_eq h
            refine V_callV (As := [vI c169, vI (c169 + c183.1)]) (rest := [vI c207]) (s1 := [vI c215, vI c207]) (o := 0) X (con_m_rainIn N c183.2 c169 (c169 + c183.1) c215 hc215) gwX10_rainIn hdX10_rainIn ⟨by dsimp only; omega, by dsimp only; omega⟩ rfl (by decide) rfl rfl rfl (Nat.le_of_ble_eq_true rfl) ⟨Nat.zero_le _, Nat.zero_le _⟩ dX10_plansOn_215 rfl rfl ?_
            refine V_imul X dX10_plansOn_218 ?_
            refine V_goto (tgt := 223) X dX10_plansOn_219 (by decide) ?_
            exact V_sub [2, 3, 4, 5, 6, 7, 8, 0] rfl (J223 _ _ _ _ h)
        · refine V_goto (tgt := 357) X dX10_plansOn_161 (by decide) ?_
          refine V_iinc X dX10_plansOn_357 6 rfl (by decide) (L' := [(6, vI (l6 + 1)), (0, .ref (xb x + 0)), (1, vI l1), (2, vI l2), (3, vI l3), (4, vI l4), (5, vI l5)]) rfl ?_
          refine V_goto (tgt := 139) X dX10_plansOn_360 (by decide) ?_
          exact V_sub [1, 2, 3, 4, 5, 6, 0] rfl (hc139 _ (Option.some.inj h).symm)
    unfold m_plansOn_F_b96 at h
    show V x 11 Km 0 0 sz g 96 [(0, .ref (xb x + 0)), (1, vI l1), (2, vI l2), (3, vI l3), (4, vI l4), (5, vI l5)] []
    refine V_iload X dX10_plansOn_96 5 rfl ?_
    refine V_aload_n X dX10_plansOn_98 0 rfl ?_
    refine getX10 X (o := 0) (j := 33) rfl (by decide) q1581 (fv_0 rfl) dX10_plansOn_99 ?_
    refine V_icmp_ge (tgt := 369) X dX10_plansOn_102 (by decide) h (fun h => ?_) (fun h => ?_)
    · obtain ⟨e3, h, e3q⟩ := outR_some h
      replace h := h.trans (congrArg some (he96 _ e3q))
      have hr := Option.some.inj h
      subst hr
      exact V_end_v hX rfl dX10_plansOn_369
    · refine V_iload_n X dX10_plansOn_105 2 rfl ?_
      refine V_iload X dX10_plansOn_106 5 rfl ?_
      refine V_ishr X dX10_plansOn_108 ?_
      refine V_iconst X dX10_plansOn_109 ?_
      refine V_iand X dX10_plansOn_110 ?_
      refine V_iconst X dX10_plansOn_111 ?_
      refine V_icmp_eq (tgt := 363) X dX10_plansOn_112 (by decide) h (fun h => ?_) (fun h => ?_)
      · refine V_iinc X dX10_plansOn_363 5 rfl (by decide) (L' := [(5, vI (l5 + 1)), (0, .ref (xb x + 0)), (1, vI l1), (2, vI l2), (3, vI l3), (4, vI l4)]) rfl ?_
        refine V_goto (tgt := 96) X dX10_plansOn_366 (by decide) ?_
        exact V_sub [1, 2, 3, 4, 5, 0] rfl (hc96 _ (Option.some.inj h).symm)
      · refine V_aload_n X dX10_plansOn_115 0 rfl ?_
        refine getX10 X (o := 0) (j := 17) rfl (by decide) q1565 (fv_1 (i := 10) rfl rfl) dX10_plansOn_116 ?_
        refine V_iconst X dX10_plansOn_119 ?_
        refine V_iload X dX10_plansOn_120 5 rfl ?_
        refine V_imul X dX10_plansOn_122 ?_
        refine V_iconst X dX10_plansOn_123 ?_
        refine V_iadd X dX10_plansOn_124 ?_
        refine V_iald X (o := 10) (n := 60) rfl (by decide) dX10_plansOn_125 h (fun v125 h => ?_)
        refine V_iload_n X dX10_plansOn_126 2 rfl ?_
        refine V_iconst X dX10_plansOn_127 ?_
        refine V_ixor X dX10_plansOn_128 ?_
        refine V_iand X dX10_plansOn_129 ?_
        refine V_if_eq (tgt := 136) X dX10_plansOn_130 (by decide) h (fun h => ?_) (fun h => ?_)
        · refine V_iconst X dX10_plansOn_136 ?_
          refine V_istore X dX10_plansOn_137 (by decide) (L' := [(6, vI 1), (0, .ref (xb x + 0)), (1, vI l1), (2, vI l2), (3, vI l3), (4, vI l4), (5, vI l5)]) rfl ?_
          obtain ⟨t4, t4q, h⟩ := bind_some_eq h
          refine V_sub [1, 2, 3, 4, 5, 6, 0] rfl (LL139 l5 N (g, 1) _ t4q ?_)
          refine V_iinc X dX10_plansOn_363 5 rfl (by decide) (L' := [(5, vI (l5 + 1)), (0, .ref (xb x + 0)), (1, vI l1), (2, vI l2), (3, vI l3), (4, vI l4)]) rfl ?_
          refine V_goto (tgt := 96) X dX10_plansOn_366 (by decide) ?_
          exact V_sub [1, 2, 3, 4, 5, 0] rfl (hc96 _ (Option.some.inj h).symm)
        · refine V_goto (tgt := 363) X dX10_plansOn_133 (by decide) ?_
          refine V_iinc X dX10_plansOn_363 5 rfl (by decide) (L' := [(5, vI (l5 + 1)), (0, .ref (xb x + 0)), (1, vI l1), (2, vI l2), (3, vI l3), (4, vI l4)]) rfl ?_
          refine V_goto (tgt := 96) X dX10_plansOn_366 (by decide) ?_
          exact V_sub [1, 2, 3, 4, 5, 0] rfl (hc96 _ (Option.some.inj h).symm)
  have LL63 : ∀ (l1 : Int) (l2 : Int) (l3 : Int) (l4 : Int) (n : Nat) (s : (GS × Int)) (e : (GS)), loopN (fun s => m_plansOn_F_b63 N R_plansOn l1 l2 l3 l4 s.1 s.2) n s = some e → V x 11 Km 0 0 sz e 93 [(0, .ref (xb x + 0)), (1, vI l1), (2, vI l2), (3, vI l3), (4, vI l4)] [] → V x 11 Km 0 0 sz s.1 63 [(0, .ref (xb x + 0)), (1, vI l1), (2, vI l2), (3, vI l3), (4, vI l4), (5, vI s.2)] [] := by
    intro l1 l2 l3 l4 n s e
    refine loop_walk (P := fun s => V x 11 Km 0 0 sz s.1 63 [(0, .ref (xb x + 0)), (1, vI l1), (2, vI l2), (3, vI l3), (4, vI l4), (5, vI s.2)] []) (E := fun e => V x 11 Km 0 0 sz e 93 [(0, .ref (xb x + 0)), (1, vI l1), (2, vI l2), (3, vI l3), (4, vI l4)] []) ?_ n s e
    clear e s n
    rintro ⟨g, l5⟩ q63 h hc63 he63
    replace h : m_plansOn_F_b63 N R_plansOn l1 l2 l3 l4 g l5 = some q63 := h
    unfold m_plansOn_F_b63 at h
    show V x 11 Km 0 0 sz g 63 [(0, .ref (xb x + 0)), (1, vI l1), (2, vI l2), (3, vI l3), (4, vI l4), (5, vI l5)] []
    refine V_iload X dX10_plansOn_63 5 rfl ?_
    refine V_iconst X dX10_plansOn_65 ?_
    refine V_icmp_ge (tgt := 93) X dX10_plansOn_66 (by decide) h (fun h => ?_) (fun h => ?_)
    · exact V_sub [0, 1, 2, 3, 4] rfl (he63 _ (Option.some.inj h).symm)
    · refine V_aload_n X dX10_plansOn_69 0 rfl ?_
      refine getX10 X (o := 0) (j := 60) rfl (by decide) q1608 (fv_1 (i := 37) rfl rfl) dX10_plansOn_70 ?_
      refine V_iconst X dX10_plansOn_73 ?_
      refine V_iload_n X dX10_plansOn_74 1 rfl ?_
      refine V_imul X dX10_plansOn_75 ?_
      refine V_iload X dX10_plansOn_76 5 rfl ?_
      refine V_iadd X dX10_plansOn_78 ?_
      refine V_aload_n X dX10_plansOn_79 0 rfl ?_
      refine getX10 X (o := 0) (j := 53) rfl (by decide) q1601 (fv_1 (i := 31) rfl rfl) dX10_plansOn_80 ?_
      refine V_iload X dX10_plansOn_83 5 rfl ?_
      refine V_iald X (o := 31) (n := 4) rfl (by decide) dX10_plansOn_85 h (fun v85 h => ?_)
      refine V_iast X (o := 37) (n := 24) rfl (by decide) dX10_plansOn_86 h (fun g86 h => ?_)
      refine V_iinc X dX10_plansOn_87 5 rfl (by decide) (L' := [(5, vI (l5 + 1)), (0, .ref (xb x + 0)), (1, vI l1), (2, vI l2), (3, vI l3), (4, vI l4)]) rfl ?_
      refine V_goto (tgt := 63) X dX10_plansOn_90 (by decide) ?_
      exact V_sub [1, 2, 3, 4, 5, 0] rfl (hc63 _ (Option.some.inj h).symm)
  have J26 : ∀ (g : GS) (l1 : Int) (l2 : Int) (l3 : Int) (l4 : Int), m_plansOn_F_j26 N R_plansOn g l1 l2 l3 l4 = some r → V x 11 Km 0 0 sz g 26 [(0, .ref (xb x + 0)), (1, vI l1), (2, vI l2), (3, vI l3), (4, vI l4)] [] := by
    intro g l1 l2 l3 l4 h
    unfold m_plansOn_F_j26 at h
    refine V_iload_n X dX10_plansOn_26 1 rfl ?_
    refine V_aload_n X dX10_plansOn_27 0 rfl ?_
    refine getX10 X (o := 0) (j := 33) rfl (by decide) q1581 (fv_0 rfl) dX10_plansOn_28 ?_
    refine V_icmp_ne (tgt := 60) X dX10_plansOn_31 (by decide) h (fun h => ?_) (fun h => ?_)
    · refine V_iconst X dX10_plansOn_60 ?_
      refine V_istore X dX10_plansOn_61 (by decide) (L' := [(5, vI 0), (0, .ref (xb x + 0)), (1, vI l1), (2, vI l2), (3, vI l3), (4, vI l4)]) rfl ?_
      obtain ⟨t5, t5q, h⟩ := bind_some_eq h
      refine V_sub [1, 2, 3, 4, 5, 0] rfl (LL63 l1 l2 l3 l4 N (g, 0) _ t5q ?_)
      refine V_iconst X dX10_plansOn_93 ?_
      refine V_istore X dX10_plansOn_94 (by decide) (L' := [(5, vI 0), (0, .ref (xb x + 0)), (1, vI l1), (2, vI l2), (3, vI l3), (4, vI l4)]) rfl ?_
      exact V_sub [1, 2, 3, 4, 5, 0] rfl (LL96 l1 l2 l3 l4 N (t5, 0) _ h rfl)
    · refine V_aload_n X dX10_plansOn_34 0 rfl ?_
      refine V_iload_n X dX10_plansOn_35 3 rfl ?_
      refine putX10 X (o := 0) (j := 63) (a := l3) rfl (by decide) rfl rfl rfl q1611 dX10_plansOn_36 ?_
      refine V_aload_n X dX10_plansOn_39 0 rfl ?_
      refine V_iload X dX10_plansOn_40 4 rfl ?_
      refine putX10 X (o := 0) (j := 64) (a := l4) rfl (by decide) rfl rfl rfl q1612 dX10_plansOn_42 ?_
      refine V_aload_n X dX10_plansOn_45 0 rfl ?_
      refine V_aload_n X dX10_plansOn_46 0 rfl ?_
      refine getX10 X (o := 0) (j := 62) rfl (by decide) q1610 (fv_1 (i := 39) rfl rfl) dX10_plansOn_47 ?_
      refine V_aload_n X dX10_plansOn_50 0 rfl ?_
      refine getX10 X (o := 0) (j := 61) rfl (by decide) q1609 (fv_1 (i := 38) rfl rfl) dX10_plansOn_51 ?_
      refine V_bipush X dX10_plansOn_54 (by decide) ?_
      obtain ⟨c56, hc56, h⟩ := bind_some_eq h
      refine V_callV (As := [.ref (xb x + 39), .ref (xb x + 38), vI 10]) (rest := []) (s1 := []) (o := 0) X (con_m_copies N 39 10 38 10 ⟨rfl, (by decide)⟩ ⟨rfl, (by decide)⟩ (sI (sI g 963 0 l3) 964 0 l4) 10 c56 hc56) gwX10_copies hdX10_copies ⟨by dsimp only; omega, by dsimp only; omega⟩ rfl (by decide) rfl rfl rfl (Nat.le_of_ble_eq_true rfl) ⟨Nat.zero_le _, Nat.zero_le _⟩ dX10_plansOn_56 rfl rfl ?_
      have hr := Option.some.inj h
      subst hr
      exact V_end_v hX rfl dX10_plansOn_59
  unfold m_plansOn_F at h
  show V x 11 Km 0 0 sz g 0 [(0, .ref (xb x + 0)), (1, vI l1), (2, vI l2), (3, vI l3), (4, vI l4)] []
  refine V_iload_n X dX10_plansOn_0 3 rfl ?_
  refine V_aload_n X dX10_plansOn_1 0 rfl ?_
  refine getX10 X (o := 0) (j := 63) rfl (by decide) q1611 (fv_0 rfl) dX10_plansOn_2 ?_
  refine V_icmp_gt (tgt := 25) X dX10_plansOn_5 (by decide) h (fun h => ?_) (fun h => ?_)
  · have hr := Option.some.inj h
    subst hr
    exact V_end_v hX rfl dX10_plansOn_25
  · refine V_iload_n X dX10_plansOn_8 3 rfl ?_
    refine V_aload_n X dX10_plansOn_9 0 rfl ?_
    refine getX10 X (o := 0) (j := 63) rfl (by decide) q1611 (fv_0 rfl) dX10_plansOn_10 ?_
    refine V_icmp_ne (tgt := 26) X dX10_plansOn_13 (by decide) h (fun h => ?_) (fun h => ?_)
    · exact V_sub [0, 1, 2, 3, 4] rfl (J26 _ _ _ _ _ h)
    · refine V_iload X dX10_plansOn_16 4 rfl ?_
      refine V_aload_n X dX10_plansOn_18 0 rfl ?_
      refine getX10 X (o := 0) (j := 64) rfl (by decide) q1612 (fv_0 rfl) dX10_plansOn_19 ?_
      refine V_icmp_lt (tgt := 26) X dX10_plansOn_22 (by decide) h (fun h => ?_) (fun h => ?_)
      · exact V_sub [0, 1, 2, 3, 4] rfl (J26 _ _ _ _ _ h)
      · have hr := Option.some.inj h
        subst hr
        exact V_end_v hX rfl dX10_plansOn_25
theorem con_m_plansOn_R (N : Nat) : ∀ (d : Nat) (g : GS) (a0 a1 a2 a3 : Int) (r : GS), m_plansOn_R N d g a0 a1 a2 a3 = some r → Con yX10_plansOn cX10_plansOn 11 none (d * 6) (d * 142) Km (fun b => [.ref (b + 0), vI a0, vI a1, vI a2, vI a3]) g (fun _ => none) r := by
  intro d
  induction d with
  | zero => intro g a0 a1 a2 a3 r h; cases h
  | succ d ih =>
    intro g a0 a1 a2 a3 r h
    have h2 := con_m_plansOn_F N (d * 6) (d * 142) (m_plansOn_R N d) ih g a0 a1 a2 a3 r h
    rwa [show d * 6 + 6 = (d + 1) * 6 by omega, show d * 142 + 142 = (d + 1) * 142 by omega] at h2
theorem con_m_plansOn (N : Nat) (g : GS) (a0 a1 a2 a3 : Int) (r : GS) (h : m_plansOn N g a0 a1 a2 a3 = some r) : Con yX10_plansOn cX10_plansOn 11 none 96 2272 Km (fun b => [.ref (b + 0), vI a0, vI a1, vI a2, vI a3]) g (fun _ => none) r := con_m_plansOn_R N 16 g a0 a1 a2 a3 r h
set_option maxHeartbeats 4000000 in
theorem con_m_findSoonest (N : Nat) (g : GS) (r : GS) (h : m_findSoonest N g = some r) : Con yX10_findSoonest cX10_findSoonest 2 none 97 2302 Km (fun b => [.ref (b + 0)]) g (fun _ => none) r := by
  refine Con.of RX10 (by decide) rfl (fun b => Nat.le_of_ble_eq_true rfl) (fun x sz hX => ?_)
  have X := hX.1
  have LL2 : ∀  (n : Nat) (s : (GS × Int)) (e : (GS)), loopN (fun s => m_findSoonest_b2 N s.1 s.2) n s = some e → V x 2 Km 0 0 sz e 20 [(0, .ref (xb x + 0))] [] → V x 2 Km 0 0 sz s.1 2 [(0, .ref (xb x + 0)), (1, vI s.2)] [] := by
    intro  n s e
    refine loop_walk (P := fun s => V x 2 Km 0 0 sz s.1 2 [(0, .ref (xb x + 0)), (1, vI s.2)] []) (E := fun e => V x 2 Km 0 0 sz e 20 [(0, .ref (xb x + 0))] []) ?_ n s e
    clear e s n
    rintro ⟨g, l1⟩ q2 h hc2 he2
    replace h : m_findSoonest_b2 N g l1 = some q2 := h
    unfold m_findSoonest_b2 at h
    show V x 2 Km 0 0 sz g 2 [(0, .ref (xb x + 0)), (1, vI l1)] []
    refine V_iload_n X dX10_findSoonest_2 1 rfl ?_
    refine V_iconst X dX10_findSoonest_3 ?_
    refine V_icmp_ge (tgt := 20) X dX10_findSoonest_4 (by decide) h (fun h => ?_) (fun h => ?_)
    · exact V_sub [0] rfl (he2 _ (Option.some.inj h).symm)
    · refine V_aload_n X dX10_findSoonest_7 0 rfl ?_
      refine getX10 X (o := 0) (j := 53) rfl (by decide) q1601 (fv_1 (i := 31) rfl rfl) dX10_findSoonest_8 ?_
      refine V_iload_n X dX10_findSoonest_11 1 rfl ?_
      refine V_iconst X dX10_findSoonest_12 ?_
      refine V_iast X (o := 31) (n := 4) rfl (by decide) dX10_findSoonest_13 h (fun g13 h => ?_)
      refine V_iinc X dX10_findSoonest_14 1 rfl (by decide) (L' := [(1, vI (l1 + 1)), (0, .ref (xb x + 0))]) rfl ?_
      refine V_goto (tgt := 2) X dX10_findSoonest_17 (by decide) ?_
      exact V_sub [1, 0] rfl (hc2 _ (Option.some.inj h).symm)
  unfold m_findSoonest at h
  show V x 2 Km 0 0 sz g 0 [(0, .ref (xb x + 0))] []
  refine V_iconst X dX10_findSoonest_0 ?_
  refine V_istore_n X dX10_findSoonest_1 (by decide) (L' := [(1, vI 0), (0, .ref (xb x + 0))]) rfl ?_
  obtain ⟨t1, t1q, h⟩ := bind_some_eq h
  refine V_sub [1, 0] rfl (LL2 N (g, 0) _ t1q ?_)
  refine V_aload_n X dX10_findSoonest_20 0 rfl ?_
  refine V_ldcw X q2056 (n := 1000000) (by decide) dX10_findSoonest_21 ?_
  refine putX10 X (o := 0) (j := 63) (a := 1000000) rfl (by decide) rfl rfl rfl q1611 dX10_findSoonest_24 ?_
  refine V_aload_n X dX10_findSoonest_27 0 rfl ?_
  refine V_iconst X dX10_findSoonest_28 ?_
  refine putX10 X (o := 0) (j := 64) (a := 0) rfl (by decide) rfl rfl rfl q1612 dX10_findSoonest_29 ?_
  refine V_aload_n X dX10_findSoonest_32 0 rfl ?_
  refine V_iconst X dX10_findSoonest_33 ?_
  refine V_iconst X dX10_findSoonest_34 ?_
  refine V_iconst X dX10_findSoonest_35 ?_
  refine V_iconst X dX10_findSoonest_36 ?_
  obtain ⟨c37, hc37, h⟩ := bind_some_eq h
  refine V_callV (As := [vI 0, vI 0, vI 0, vI 0]) (rest := []) (s1 := []) (o := 0) X (con_m_plansOn N (sI (sI t1 963 0 1000000) 964 0 0) 0 0 0 0 c37 hc37) gwX10_plansOn hdX10_plansOn (by decide) rfl (by decide) rfl rfl rfl (Nat.le_of_ble_eq_true rfl) ⟨Nat.zero_le _, Nat.zero_le _⟩ dX10_findSoonest_37 rfl rfl ?_
  have hr := Option.some.inj h
  subst hr
  exact V_end_v hX rfl dX10_findSoonest_40
set_option maxHeartbeats 4000000 in
theorem con_m_soonest (N : Nat) (g : GS) (l1 : Int) (r : (Int × GS)) (h : m_soonest N g l1 = some r) : Con yX10_soonest cX10_soonest 2 (some .int) 98 2323 Km (fun b => [.ref (b + 0), vI l1]) g (fun _ => some (vI r.1)) r.2 := by
  refine Con.of RX10 (by decide) rfl (fun b => Nat.le_of_ble_eq_true rfl) (fun x sz hX => ?_)
  have X := hX.1
  have J34 : ∀ (g : GS) (l1 : Int) (s0 : Int), m_soonest_j34 N g l1 s0 = some r → V x 2 Km 0 0 sz g 34 [(0, .ref (xb x + 0)), (1, vI l1)] [vI s0, .ref (xb x + 0)] := by
    intro g l1 s0 h
    unfold m_soonest_j34 at h
    refine V_iconst X dX10_soonest_34 ?_
    refine V_iconst X dX10_soonest_35 ?_
    obtain ⟨c36, hc36, h⟩ := bind_some_eq h
    refine V_callV (As := [vI s0, vI 2, vI 2]) (rest := []) (s1 := [vI c36.1]) (o := 0) X (con_m_may g s0 2 2 c36 hc36) gwX10_may hdX10_may (by decide) rfl (by decide) rfl rfl rfl (Nat.le_of_ble_eq_true rfl) ⟨Nat.zero_le _, Nat.zero_le _⟩ dX10_soonest_36 rfl rfl ?_
    refine V_if_ne (tgt := 44) X dX10_soonest_39 (by decide) h (fun h => ?_) (fun h => ?_)
    · refine V_aload_n X dX10_soonest_44 0 rfl ?_
      obtain ⟨c45, hc45, h⟩ := bind_some_eq h
      refine V_callV (As := []) (rest := []) (s1 := []) (o := 0) X (con_m_findSoonest N c36.2 c45 hc45) gwX10_findSoonest hdX10_findSoonest (by decide) rfl (by decide) rfl rfl rfl (Nat.le_of_ble_eq_true rfl) ⟨Nat.zero_le _, Nat.zero_le _⟩ dX10_soonest_45 rfl rfl ?_
      refine V_aload_n X dX10_soonest_48 0 rfl ?_
      refine getX10 X (o := 0) (j := 63) rfl (by decide) q1611 (fv_0 rfl) dX10_soonest_49 ?_
      refine V_ldcw X q2056 (n := 1000000) (by decide) dX10_soonest_52 ?_
      refine V_icmp_ne (tgt := 62) X dX10_soonest_55 (by decide) h (fun h => ?_) (fun h => ?_)
      · refine V_iload_n X dX10_soonest_62 1 rfl ?_
        refine V_if_ne (tgt := 73) X dX10_soonest_63 (by decide) h (fun h => ?_) (fun h => ?_)
        · refine V_aload_n X dX10_soonest_73 0 rfl ?_
          refine getX10 X (o := 0) (j := 64) rfl (by decide) q1612 (fv_0 rfl) dX10_soonest_74 ?_
          have hr := Option.some.inj h
          subst hr
          exact V_end_i hX rfl dX10_soonest_77
        · refine V_aload_n X dX10_soonest_66 0 rfl ?_
          refine getX10 X (o := 0) (j := 63) rfl (by decide) q1611 (fv_0 rfl) dX10_soonest_67 ?_
          refine V_goto (tgt := 77) X dX10_soonest_70 (by decide) ?_
          have hr := Option.some.inj h
          subst hr
          exact V_end_i hX rfl dX10_soonest_77
      · refine V_iconst X dX10_soonest_58 ?_
        refine V_goto (tgt := 77) X dX10_soonest_59 (by decide) ?_
        have hr := Option.some.inj h
        subst hr
        exact V_end_i hX rfl dX10_soonest_77
    · refine V_iconst X dX10_soonest_42 ?_
      have hr := Option.some.inj h
      subst hr
      exact V_end_i hX rfl dX10_soonest_43
  unfold m_soonest at h
  show V x 2 Km 0 0 sz g 0 [(0, .ref (xb x + 0)), (1, vI l1)] []
  refine V_aload_n X dX10_soonest_0 0 rfl ?_
  refine V_iconst X dX10_soonest_1 ?_
  refine putX10 X (o := 0) (j := 0) (a := 0) rfl (by decide) rfl rfl rfl q1548 dX10_soonest_2 ?_
  refine V_aload_n X dX10_soonest_5 0 rfl ?_
  refine V_iload_n X dX10_soonest_6 1 rfl ?_
  refine V_iconst X dX10_soonest_7 ?_
  refine V_iconst X dX10_soonest_8 ?_
  obtain ⟨c9, hc9, h⟩ := bind_some_eq h
  refine V_callS (As := [vI l1, vI 0, vI 1]) (rest := [.ref (xb x + 0)]) (s1 := [vI c9, .ref (xb x + 0)]) X (con_m_within (sI g 900 0 0) l1 0 1 c9 hc9) gwX10_within hdX10_within (by decide) rfl rfl (Nat.le_of_ble_eq_true rfl) ⟨Nat.zero_le _, Nat.zero_le _⟩ dX10_soonest_9 rfl rfl ?_
  refine V_iconst X dX10_soonest_12 ?_
  refine V_iconst X dX10_soonest_13 ?_
  obtain ⟨c14, hc14, h⟩ := bind_some_eq h
  refine V_callV (As := [vI c9, vI 1, vI 1]) (rest := []) (s1 := [vI c14.1]) (o := 0) X (con_m_may (sI g 900 0 0) c9 1 1 c14 hc14) gwX10_may hdX10_may (by decide) rfl (by decide) rfl rfl rfl (Nat.le_of_ble_eq_true rfl) ⟨Nat.zero_le _, Nat.zero_le _⟩ dX10_soonest_14 rfl rfl ?_
  refine V_if_eq (tgt := 42) X dX10_soonest_17 (by decide) h (fun h => ?_) (fun h => ?_)
  · refine V_iconst X dX10_soonest_42 ?_
    have hr := Option.some.inj h
    subst hr
    exact V_end_i hX rfl dX10_soonest_43
  · refine V_aload_n X dX10_soonest_20 0 rfl ?_
    refine V_aload_n X dX10_soonest_21 0 rfl ?_
    refine getX10 X (o := 0) (j := 33) rfl (by decide) q1581 (fv_0 rfl) dX10_soonest_22 ?_
    refine V_iconst X dX10_soonest_25 ?_
    refine V_icmp_gt (tgt := 33) X dX10_soonest_26 (by decide) h (fun h => ?_) (fun h => ?_)
    · refine V_iconst X dX10_soonest_33 ?_
      exact V_sub [0, 1] rfl (J34 _ _ _ h)
    · refine V_iconst X dX10_soonest_29 ?_
      refine V_goto (tgt := 34) X dX10_soonest_30 (by decide) ?_
      exact V_sub [0, 1] rfl (J34 _ _ _ h)
set_option maxHeartbeats 4000000 in
theorem con_m_first (N : Nat) (g : GS) (l1 : Int) (r : (Int × GS)) (h : m_first N g l1 = some r) : Con yX10_first cX10_first 2 (some .int) 98 2323 Km (fun b => [.ref (b + 0), vI l1]) g (fun _ => some (vI r.1)) r.2 := by
  refine Con.of RX10 (by decide) rfl (fun b => Nat.le_of_ble_eq_true rfl) (fun x sz hX => ?_)
  have X := hX.1
  have J39 : ∀ (g : GS) (l1 : Int) (s0 : Int), m_first_j39 N g l1 s0 = some r → V x 2 Km 0 0 sz g 39 [(0, .ref (xb x + 0)), (1, vI l1)] [vI s0, .ref (xb x + 0)] := by
    intro g l1 s0 h
    unfold m_first_j39 at h
    refine V_iconst X dX10_first_39 ?_
    refine V_iconst X dX10_first_40 ?_
    obtain ⟨c41, hc41, h⟩ := bind_some_eq h
    refine V_callV (As := [vI s0, vI 2, vI 2]) (rest := []) (s1 := [vI c41.1]) (o := 0) X (con_m_may g s0 2 2 c41 hc41) gwX10_may hdX10_may (by decide) rfl (by decide) rfl rfl rfl (Nat.le_of_ble_eq_true rfl) ⟨Nat.zero_le _, Nat.zero_le _⟩ dX10_first_41 rfl rfl ?_
    refine V_if_ne (tgt := 49) X dX10_first_44 (by decide) h (fun h => ?_) (fun h => ?_)
    · refine V_aload_n X dX10_first_49 0 rfl ?_
      obtain ⟨c50, hc50, h⟩ := bind_some_eq h
      refine V_callV (As := []) (rest := []) (s1 := []) (o := 0) X (con_m_findSoonest N c41.2 c50 hc50) gwX10_findSoonest hdX10_findSoonest (by decide) rfl (by decide) rfl rfl rfl (Nat.le_of_ble_eq_true rfl) ⟨Nat.zero_le _, Nat.zero_le _⟩ dX10_first_50 rfl rfl ?_
      refine V_aload_n X dX10_first_53 0 rfl ?_
      refine getX10 X (o := 0) (j := 63) rfl (by decide) q1611 (fv_0 rfl) dX10_first_54 ?_
      refine V_ldcw X q2056 (n := 1000000) (by decide) dX10_first_57 ?_
      refine V_icmp_ne (tgt := 67) X dX10_first_60 (by decide) h (fun h => ?_) (fun h => ?_)
      · refine V_bipush X dX10_first_67 (by decide) ?_
        refine V_aload_n X dX10_first_69 0 rfl ?_
        refine getX10 X (o := 0) (j := 61) rfl (by decide) q1609 (fv_1 (i := 38) rfl rfl) dX10_first_70 ?_
        refine V_iconst X dX10_first_73 ?_
        refine V_iload_n X dX10_first_74 1 rfl ?_
        refine V_imul X dX10_first_75 ?_
        refine V_iald X (o := 38) (n := 10) rfl (by decide) dX10_first_76 h (fun v76 h => ?_)
        refine V_imul X dX10_first_77 ?_
        refine V_aload_n X dX10_first_78 0 rfl ?_
        refine getX10 X (o := 0) (j := 61) rfl (by decide) q1609 (fv_1 (i := 38) rfl rfl) dX10_first_79 ?_
        refine V_iconst X dX10_first_82 ?_
        refine V_iload_n X dX10_first_83 1 rfl ?_
        refine V_imul X dX10_first_84 ?_
        refine V_iconst X dX10_first_85 ?_
        refine V_iadd X dX10_first_86 ?_
        refine V_iald X (o := 38) (n := 10) rfl (by decide) dX10_first_87 h (fun v87 h => ?_)
        refine V_iadd X dX10_first_88 ?_
        have hr := Option.some.inj h
        subst hr
        exact V_end_i hX rfl dX10_first_89
      · refine V_iconst X dX10_first_63 ?_
        refine V_goto (tgt := 89) X dX10_first_64 (by decide) ?_
        have hr := Option.some.inj h
        subst hr
        exact V_end_i hX rfl dX10_first_89
    · refine V_iconst X dX10_first_47 ?_
      have hr := Option.some.inj h
      subst hr
      exact V_end_i hX rfl dX10_first_48
  unfold m_first at h
  show V x 2 Km 0 0 sz g 0 [(0, .ref (xb x + 0)), (1, vI l1)] []
  refine V_aload_n X dX10_first_0 0 rfl ?_
  refine V_iconst X dX10_first_1 ?_
  refine putX10 X (o := 0) (j := 0) (a := 0) rfl (by decide) rfl rfl rfl q1548 dX10_first_2 ?_
  refine V_aload_n X dX10_first_5 0 rfl ?_
  refine V_iload_n X dX10_first_6 1 rfl ?_
  refine V_iconst X dX10_first_7 ?_
  refine V_aload_n X dX10_first_8 0 rfl ?_
  refine getX10 X (o := 0) (j := 33) rfl (by decide) q1581 (fv_0 rfl) dX10_first_9 ?_
  refine V_iconst X dX10_first_12 ?_
  refine V_isub X dX10_first_13 ?_
  obtain ⟨c14, hc14, h⟩ := bind_some_eq h
  refine V_callS (As := [vI l1, vI 0, vI ((gI (sI g 900 0 0) 933 0) - 1)]) (rest := [.ref (xb x + 0)]) (s1 := [vI c14, .ref (xb x + 0)]) X (con_m_within (sI g 900 0 0) l1 0 ((gI (sI g 900 0 0) 933 0) - 1) c14 hc14) gwX10_within hdX10_within (by decide) rfl rfl (Nat.le_of_ble_eq_true rfl) ⟨Nat.zero_le _, Nat.zero_le _⟩ dX10_first_14 rfl rfl ?_
  refine V_iconst X dX10_first_17 ?_
  refine V_iconst X dX10_first_18 ?_
  obtain ⟨c19, hc19, h⟩ := bind_some_eq h
  refine V_callV (As := [vI c14, vI 1, vI 1]) (rest := []) (s1 := [vI c19.1]) (o := 0) X (con_m_may (sI g 900 0 0) c14 1 1 c19 hc19) gwX10_may hdX10_may (by decide) rfl (by decide) rfl rfl rfl (Nat.le_of_ble_eq_true rfl) ⟨Nat.zero_le _, Nat.zero_le _⟩ dX10_first_19 rfl rfl ?_
  refine V_if_eq (tgt := 47) X dX10_first_22 (by decide) h (fun h => ?_) (fun h => ?_)
  · refine V_iconst X dX10_first_47 ?_
    have hr := Option.some.inj h
    subst hr
    exact V_end_i hX rfl dX10_first_48
  · refine V_aload_n X dX10_first_25 0 rfl ?_
    refine V_aload_n X dX10_first_26 0 rfl ?_
    refine getX10 X (o := 0) (j := 33) rfl (by decide) q1581 (fv_0 rfl) dX10_first_27 ?_
    refine V_iconst X dX10_first_30 ?_
    refine V_icmp_gt (tgt := 38) X dX10_first_31 (by decide) h (fun h => ?_) (fun h => ?_)
    · refine V_iconst X dX10_first_38 ?_
      exact V_sub [0, 1] rfl (J39 _ _ _ h)
    · refine V_iconst X dX10_first_34 ?_
      refine V_goto (tgt := 39) X dX10_first_35 (by decide) ?_
      exact V_sub [0, 1] rfl (J39 _ _ _ h)
set_option maxHeartbeats 4000000 in
theorem con_m_broad (N : Nat) (g : GS) (l1 : Int) (r : Int) (h : m_broad N g l1 = some r) : Con yX10_broad cX10_broad 4 (some .int) 1 12 Km (fun b => [.ref (b + 0), vI l1]) g (fun _ => some (vI r)) g := by
  refine Con.of RX10 (by decide) rfl (fun b => Nat.le_of_ble_eq_true rfl) (fun x sz hX => ?_)
  have X := hX.1
  have LL4 : ∀ (l1 : Int) (n : Nat) (s : (Int × Int)) (e : Int), loopN (fun s => m_broad_b4 N g l1 s.1 s.2) n s = some e → (e = r) → V x 4 Km 0 0 sz g 4 [(0, .ref (xb x + 0)), (1, vI l1), (2, vI s.1), (3, vI s.2)] [] := by
    intro l1 n s e
    refine loop_walk (P := fun s => V x 4 Km 0 0 sz g 4 [(0, .ref (xb x + 0)), (1, vI l1), (2, vI s.1), (3, vI s.2)] []) (E := fun e => e = r) ?_ n s e
    clear e s n
    rintro ⟨l2, l3⟩ q4 h hc4 he4
    replace h : m_broad_b4 N g l1 l2 l3 = some q4 := h
    unfold m_broad_b4 at h
    show V x 4 Km 0 0 sz g 4 [(0, .ref (xb x + 0)), (1, vI l1), (2, vI l2), (3, vI l3)] []
    refine V_iload_n X dX10_broad_4 3 rfl ?_
    refine V_aload_n X dX10_broad_5 0 rfl ?_
    refine getX10 X (o := 0) (j := 34) rfl (by decide) q1582 (fv_0 rfl) dX10_broad_6 ?_
    refine V_icmp_ge (tgt := 33) X dX10_broad_9 (by decide) h (fun h => ?_) (fun h => ?_)
    · obtain ⟨e1, h, e1q⟩ := outR_some h
      replace h := h.trans (congrArg some (he4 _ e1q))
      refine V_iload_n X dX10_broad_33 2 rfl ?_
      have hr := Option.some.inj h
      subst hr
      exact V_end_i hX rfl dX10_broad_34
    · refine V_iload_n X dX10_broad_12 2 rfl ?_
      refine V_iload_n X dX10_broad_13 1 rfl ?_
      refine V_iload_n X dX10_broad_14 3 rfl ?_
      refine V_ishr X dX10_broad_15 ?_
      refine V_iconst X dX10_broad_16 ?_
      refine V_iand X dX10_broad_17 ?_
      refine V_aload_n X dX10_broad_18 0 rfl ?_
      refine getX10 X (o := 0) (j := 19) rfl (by decide) q1567 (fv_1 (i := 12) rfl rfl) dX10_broad_19 ?_
      refine V_iload_n X dX10_broad_22 3 rfl ?_
      refine V_iald X (o := 12) (n := 6) rfl (by decide) dX10_broad_23 h (fun v23 h => ?_)
      refine V_imul X dX10_broad_24 ?_
      refine V_iadd X dX10_broad_25 ?_
      refine V_istore_n X dX10_broad_26 (by decide) (L' := [(2, vI (l2 + ((i_and (i_shr l1 l3) 1) * v23))), (0, .ref (xb x + 0)), (1, vI l1), (3, vI l3)]) rfl ?_
      refine V_iinc X dX10_broad_27 3 rfl (by decide) (L' := [(3, vI (l3 + 1)), (2, vI (l2 + ((i_and (i_shr l1 l3) 1) * v23))), (0, .ref (xb x + 0)), (1, vI l1)]) rfl ?_
      refine V_goto (tgt := 4) X dX10_broad_30 (by decide) ?_
      exact V_sub [2, 3, 1, 0] rfl (hc4 _ (Option.some.inj h).symm)
  unfold m_broad at h
  show V x 4 Km 0 0 sz g 0 [(0, .ref (xb x + 0)), (1, vI l1)] []
  refine V_iconst X dX10_broad_0 ?_
  refine V_istore_n X dX10_broad_1 (by decide) (L' := [(2, vI 1), (0, .ref (xb x + 0)), (1, vI l1)]) rfl ?_
  refine V_iconst X dX10_broad_2 ?_
  refine V_istore_n X dX10_broad_3 (by decide) (L' := [(3, vI 0), (2, vI 1), (0, .ref (xb x + 0)), (1, vI l1)]) rfl ?_
  exact V_sub [2, 3, 1, 0] rfl (LL4 l1 N (1, 0) _ h rfl)
set_option maxHeartbeats 4000000 in
theorem con_m_sinkOf (N : Nat) (g : GS) (l1 : Int) (l2 : Int) (l3 : Int) (r : Int) (h : m_sinkOf N g l1 l2 l3 = some r) : Con yX10_sinkOf cX10_sinkOf 5 (some .int) 2 35 Km (fun b => [.ref (b + 0), vI l1, vI l2, vI l3]) g (fun _ => some (vI r)) g := by
  refine Con.of RX10 (by decide) rfl (fun b => Nat.le_of_ble_eq_true rfl) (fun x sz hX => ?_)
  have X := hX.1
  unfold m_sinkOf at h
  show V x 5 Km 0 0 sz g 0 [(0, .ref (xb x + 0)), (1, vI l1), (2, vI l2), (3, vI l3)] []
  refine V_aload_n X dX10_sinkOf_0 0 rfl ?_
  refine getX10 X (o := 0) (j := 25) rfl (by decide) q1573 (fv_1 (i := 18) rfl rfl) dX10_sinkOf_1 ?_
  refine V_iconst X dX10_sinkOf_4 ?_
  refine V_iald X (o := 18) (n := 5) rfl (by decide) dX10_sinkOf_5 h (fun v5 h => ?_)
  refine V_aload_n X dX10_sinkOf_6 0 rfl ?_
  refine V_iload_n X dX10_sinkOf_7 2 rfl ?_
  obtain ⟨c8, hc8, h⟩ := bind_some_eq h
  refine V_callV (As := [vI l2]) (rest := [vI v5]) (s1 := [vI c8, vI v5]) (o := 0) X (con_m_broad N g l2 c8 hc8) gwX10_broad hdX10_broad (by decide) rfl (by decide) rfl rfl rfl (Nat.le_of_ble_eq_true rfl) ⟨Nat.zero_le _, Nat.zero_le _⟩ dX10_sinkOf_8 rfl rfl ?_
  refine V_idiv X dX10_sinkOf_11 h (fun h => ?_)
  refine V_aload_n X dX10_sinkOf_12 0 rfl ?_
  refine getX10 X (o := 0) (j := 18) rfl (by decide) q1566 (fv_1 (i := 11) rfl rfl) dX10_sinkOf_13 ?_
  refine V_iload_n X dX10_sinkOf_16 1 rfl ?_
  refine V_iald X (o := 11) (n := 60) rfl (by decide) dX10_sinkOf_17 h (fun v17 h => ?_)
  refine V_isub X dX10_sinkOf_18 ?_
  refine V_istore X dX10_sinkOf_19 (by decide) (L' := [(4, vI ((i_div v5 c8) - v17)), (0, .ref (xb x + 0)), (1, vI l1), (2, vI l2), (3, vI l3)]) rfl ?_
  refine V_iload X dX10_sinkOf_21 0 rfl ?_
  refine V_if_le (tgt := 33) X dX10_sinkOf_23 (by decide) h (fun h => ?_) (fun h => ?_)
  · refine V_iconst X dX10_sinkOf_33 ?_
    have hr := Option.some.inj h
    subst hr
    exact V_end_i hX rfl dX10_sinkOf_34
  · refine V_iload X dX10_sinkOf_26 0 rfl ?_
    refine V_iload_n X dX10_sinkOf_28 4 rfl ?_
    refine V_imul X dX10_sinkOf_29 ?_
    refine V_goto (tgt := 34) X dX10_sinkOf_30 (by decide) ?_
    have hr := Option.some.inj h
    subst hr
    exact V_end_i hX rfl dX10_sinkOf_34
set_option maxHeartbeats 4000000 in
theorem con_m_isMinute (g : GS) (l0 : Int) (r : Int) (h : m_isMinute l0 = some r) : Con yX10_isMinute cX10_isMinute 1 (some .boolean) 1 12 Km (fun b => [vI l0]) g (fun _ => some (vI r)) g := by
  refine Con.of RX10 (by decide) rfl (fun b => Nat.le_of_ble_eq_true rfl) (fun x sz hX => ?_)
  have X := hX.1
  unfold m_isMinute at h
  show V x 1 Km 0 0 sz g 0 [(0, vI l0)] []
  refine V_iload_n X dX10_isMinute_0 0 rfl ?_
  refine V_if_lt (tgt := 15) X dX10_isMinute_1 (by decide) h (fun h => ?_) (fun h => ?_)
  · refine V_iconst X dX10_isMinute_15 ?_
    have hr := Option.some.inj h
    subst hr
    exact V_end_z hX (Or.inl rfl) rfl dX10_isMinute_16
  · refine V_iload_n X dX10_isMinute_4 0 rfl ?_
    refine V_sipush X dX10_isMinute_5 (by decide) ?_
    refine V_icmp_gt (tgt := 15) X dX10_isMinute_8 (by decide) h (fun h => ?_) (fun h => ?_)
    · refine V_iconst X dX10_isMinute_15 ?_
      have hr := Option.some.inj h
      subst hr
      exact V_end_z hX (Or.inl rfl) rfl dX10_isMinute_16
    · refine V_iconst X dX10_isMinute_11 ?_
      refine V_goto (tgt := 16) X dX10_isMinute_12 (by decide) ?_
      have hr := Option.some.inj h
      subst hr
      exact V_end_z hX (Or.inr rfl) rfl dX10_isMinute_16
set_option maxHeartbeats 4000000 in
theorem con_m_isYard (g : GS) (l0 : Int) (r : Int) (h : m_isYard l0 = some r) : Con yX10_isYard cX10_isYard 1 (some .boolean) 1 12 Km (fun b => [vI l0]) g (fun _ => some (vI r)) g := by
  refine Con.of RX10 (by decide) rfl (fun b => Nat.le_of_ble_eq_true rfl) (fun x sz hX => ?_)
  have X := hX.1
  unfold m_isYard at h
  show V x 1 Km 0 0 sz g 0 [(0, vI l0)] []
  refine V_iload_n X dX10_isYard_0 0 rfl ?_
  refine V_if_lt (tgt := 14) X dX10_isYard_1 (by decide) h (fun h => ?_) (fun h => ?_)
  · refine V_iconst X dX10_isYard_14 ?_
    have hr := Option.some.inj h
    subst hr
    exact V_end_z hX (Or.inl rfl) rfl dX10_isYard_15
  · refine V_iload_n X dX10_isYard_4 0 rfl ?_
    refine V_bipush X dX10_isYard_5 (by decide) ?_
    refine V_icmp_ge (tgt := 14) X dX10_isYard_7 (by decide) h (fun h => ?_) (fun h => ?_)
    · refine V_iconst X dX10_isYard_14 ?_
      have hr := Option.some.inj h
      subst hr
      exact V_end_z hX (Or.inl rfl) rfl dX10_isYard_15
    · refine V_iconst X dX10_isYard_10 ?_
      refine V_goto (tgt := 15) X dX10_isYard_11 (by decide) ?_
      have hr := Option.some.inj h
      subst hr
      exact V_end_z hX (Or.inr rfl) rfl dX10_isYard_15
set_option maxHeartbeats 4000000 in
theorem con_m_sinks (N : Nat) (g : GS) (l1 : Int) (l2 : Int) (l3 : Int) (r : (Int × GS)) (h : m_sinks N g l1 l2 l3 = some r) : Con yX10_sinks cX10_sinks 4 (some .int) 3 59 Km (fun b => [.ref (b + 0), vI l1, vI l2, vI l3]) g (fun _ => some (vI r.1)) r.2 := by
  refine Con.of RX10 (by decide) rfl (fun b => Nat.le_of_ble_eq_true rfl) (fun x sz hX => ?_)
  have X := hX.1
  have J39 : ∀ (g : GS) (l1 : Int) (l2 : Int) (l3 : Int) (s0 : Int), m_sinks_j39 N g l1 l2 l3 s0 = some r → V x 4 Km 0 0 sz g 39 [(0, .ref (xb x + 0)), (1, vI l1), (2, vI l2), (3, vI l3)] [vI s0, .ref (xb x + 0)] := by
    intro g l1 l2 l3 s0 h
    unfold m_sinks_j39 at h
    refine V_iconst X dX10_sinks_39 ?_
    refine V_iconst X dX10_sinks_40 ?_
    obtain ⟨c41, hc41, h⟩ := bind_some_eq h
    refine V_callV (As := [vI s0, vI 1, vI 1]) (rest := []) (s1 := [vI c41.1]) (o := 0) X (con_m_may g s0 1 1 c41 hc41) gwX10_may hdX10_may (by decide) rfl (by decide) rfl rfl rfl (Nat.le_of_ble_eq_true rfl) ⟨Nat.zero_le _, Nat.zero_le _⟩ dX10_sinks_41 rfl rfl ?_
    refine V_if_ne (tgt := 49) X dX10_sinks_44 (by decide) h (fun h => ?_) (fun h => ?_)
    · refine V_aload_n X dX10_sinks_49 0 rfl ?_
      refine V_iload_n X dX10_sinks_50 1 rfl ?_
      refine V_iload_n X dX10_sinks_51 2 rfl ?_
      refine V_iload_n X dX10_sinks_52 3 rfl ?_
      obtain ⟨c53, hc53, h⟩ := bind_some_eq h
      refine V_callV (As := [vI l1, vI l2, vI l3]) (rest := []) (s1 := [vI c53]) (o := 0) X (con_m_sinkOf N c41.2 l1 l2 l3 c53 hc53) gwX10_sinkOf hdX10_sinkOf (by decide) rfl (by decide) rfl rfl rfl (Nat.le_of_ble_eq_true rfl) ⟨Nat.zero_le _, Nat.zero_le _⟩ dX10_sinks_53 rfl rfl ?_
      have hr := Option.some.inj h
      subst hr
      exact V_end_i hX rfl dX10_sinks_56
    · refine V_iconst X dX10_sinks_47 ?_
      have hr := Option.some.inj h
      subst hr
      exact V_end_i hX rfl dX10_sinks_48
  have J38 : ∀ (g : GS) (l1 : Int) (l2 : Int) (l3 : Int), m_sinks_j38 N g l1 l2 l3 = some r → V x 4 Km 0 0 sz g 38 [(0, .ref (xb x + 0)), (1, vI l1), (2, vI l2), (3, vI l3)] [.ref (xb x + 0)] := by
    intro g l1 l2 l3 h
    unfold m_sinks_j38 at h
    refine V_iconst X dX10_sinks_38 ?_
    exact V_sub [0, 1, 2, 3] rfl (J39 _ _ _ _ _ h)
  unfold m_sinks at h
  show V x 4 Km 0 0 sz g 0 [(0, .ref (xb x + 0)), (1, vI l1), (2, vI l2), (3, vI l3)] []
  refine V_aload_n X dX10_sinks_0 0 rfl ?_
  refine V_iconst X dX10_sinks_1 ?_
  refine putX10 X (o := 0) (j := 0) (a := 0) rfl (by decide) rfl rfl rfl q1548 dX10_sinks_2 ?_
  refine V_aload_n X dX10_sinks_5 0 rfl ?_
  refine V_iload_n X dX10_sinks_6 1 rfl ?_
  obtain ⟨c7, hc7, h⟩ := bind_some_eq h
  refine V_callS (As := [vI l1]) (rest := [.ref (xb x + 0)]) (s1 := [vI c7, .ref (xb x + 0)]) X (con_m_isYard (sI g 900 0 0) l1 c7 hc7) gwX10_isYard hdX10_isYard (by decide) rfl rfl (Nat.le_of_ble_eq_true rfl) ⟨Nat.zero_le _, Nat.zero_le _⟩ dX10_sinks_7 rfl rfl ?_
  refine V_if_eq (tgt := 38) X dX10_sinks_10 (by decide) h (fun h => ?_) (fun h => ?_)
  · exact V_sub [0, 1, 2, 3] rfl (J38 _ _ _ _ h)
  · refine V_iload_n X dX10_sinks_13 2 rfl ?_
    refine V_if_lt (tgt := 38) X dX10_sinks_14 (by decide) h (fun h => ?_) (fun h => ?_)
    · exact V_sub [0, 1, 2, 3] rfl (J38 _ _ _ _ h)
    · refine V_iload_n X dX10_sinks_17 2 rfl ?_
      refine V_iconst X dX10_sinks_18 ?_
      refine V_aload_n X dX10_sinks_19 0 rfl ?_
      refine getX10 X (o := 0) (j := 34) rfl (by decide) q1582 (fv_0 rfl) dX10_sinks_20 ?_
      refine V_ishl X dX10_sinks_23 ?_
      refine V_icmp_ge (tgt := 38) X dX10_sinks_24 (by decide) h (fun h => ?_) (fun h => ?_)
      · exact V_sub [0, 1, 2, 3] rfl (J38 _ _ _ _ h)
      · refine V_iload_n X dX10_sinks_27 3 rfl ?_
        obtain ⟨c28, hc28, h⟩ := bind_some_eq h
        refine V_callS (As := [vI l3]) (rest := [.ref (xb x + 0)]) (s1 := [vI c28, .ref (xb x + 0)]) X (con_m_isMinute (sI g 900 0 0) l3 c28 hc28) gwX10_isMinute hdX10_isMinute (by decide) rfl rfl (Nat.le_of_ble_eq_true rfl) ⟨Nat.zero_le _, Nat.zero_le _⟩ dX10_sinks_28 rfl rfl ?_
        refine V_if_eq (tgt := 38) X dX10_sinks_31 (by decide) h (fun h => ?_) (fun h => ?_)
        · exact V_sub [0, 1, 2, 3] rfl (J38 _ _ _ _ h)
        · refine V_iconst X dX10_sinks_34 ?_
          refine V_goto (tgt := 39) X dX10_sinks_35 (by decide) ?_
          exact V_sub [0, 1, 2, 3] rfl (J39 _ _ _ _ _ h)
set_option maxHeartbeats 4000000 in
theorem con_m_under (N : Nat) (g : GS) (l1 : Int) (l2 : Int) (l3 : Int) (r : (Int × GS)) (h : m_under N g l1 l2 l3 = some r) : Con yX10_under cX10_under 6 (some .int) 3 59 Km (fun b => [.ref (b + 0), vI l1, vI l2, vI l3]) g (fun _ => some (vI r.1)) r.2 := by
  refine Con.of RX10 (by decide) rfl (fun b => Nat.le_of_ble_eq_true rfl) (fun x sz hX => ?_)
  have X := hX.1
  have LL52 : ∀ (g : GS) (l1 : Int) (l2 : Int) (l3 : Int) (n : Nat) (s : (Int × Int)) (e : (Int × GS)), loopN (fun s => m_under_b52 N g l1 l2 l3 s.1 s.2) n s = some e → (e = r) → V x 6 Km 0 0 sz g 52 [(0, .ref (xb x + 0)), (1, vI l1), (2, vI l2), (3, vI l3), (4, vI s.1), (5, vI s.2)] [] := by
    intro g l1 l2 l3 n s e
    refine loop_walk (P := fun s => V x 6 Km 0 0 sz g 52 [(0, .ref (xb x + 0)), (1, vI l1), (2, vI l2), (3, vI l3), (4, vI s.1), (5, vI s.2)] []) (E := fun e => e = r) ?_ n s e
    clear e s n
    rintro ⟨l4, l5⟩ q52 h hc52 he52
    replace h : m_under_b52 N g l1 l2 l3 l4 l5 = some q52 := h
    have J96 : ∀ (l5 : Int), m_under_j96 N g l1 l2 l3 l5 = some q52 → V x 6 Km 0 0 sz g 96 [(0, .ref (xb x + 0)), (1, vI l1), (2, vI l2), (3, vI l3), (5, vI l5)] [] := by
      intro l5 h
      unfold m_under_j96 at h
      refine V_iload X dX10_under_96 4 rfl ?_
      refine V_istore X dX10_under_98 (by decide) (L' := [(4, vI l5), (0, .ref (xb x + 0)), (1, vI l1), (2, vI l2), (3, vI l3), (5, vI l5)]) rfl ?_
      refine V_iinc X dX10_under_100 5 rfl (by decide) (L' := [(5, vI (l5 + 1)), (4, vI l5), (0, .ref (xb x + 0)), (1, vI l1), (2, vI l2), (3, vI l3)]) rfl ?_
      refine V_goto (tgt := 52) X dX10_under_103 (by decide) ?_
      exact V_sub [2, 3, 4, 5, 1, 0] rfl (hc52 _ (Option.some.inj h).symm)
    unfold m_under_b52 at h
    show V x 6 Km 0 0 sz g 52 [(0, .ref (xb x + 0)), (1, vI l1), (2, vI l2), (3, vI l3), (4, vI l4), (5, vI l5)] []
    refine V_iload X dX10_under_52 5 rfl ?_
    refine V_iconst X dX10_under_54 ?_
    refine V_aload_n X dX10_under_55 0 rfl ?_
    refine getX10 X (o := 0) (j := 34) rfl (by decide) q1582 (fv_0 rfl) dX10_under_56 ?_
    refine V_ishl X dX10_under_59 ?_
    refine V_icmp_ge (tgt := 106) X dX10_under_60 (by decide) h (fun h => ?_) (fun h => ?_)
    · obtain ⟨e1, h, e1q⟩ := outR_some h
      replace h := h.trans (congrArg some (he52 _ e1q))
      refine V_iload X dX10_under_106 4 rfl ?_
      have hr := Option.some.inj h
      subst hr
      exact V_end_i hX rfl dX10_under_108
    · refine V_aload_n X dX10_under_63 0 rfl ?_
      refine V_iload_n X dX10_under_64 1 rfl ?_
      refine V_iload X dX10_under_65 5 rfl ?_
      refine V_iload_n X dX10_under_67 2 rfl ?_
      obtain ⟨c68, hc68, h⟩ := bind_some_eq h
      refine V_callV (As := [vI l1, vI l5, vI l2]) (rest := []) (s1 := [vI c68]) (o := 0) X (con_m_sinkOf N g l1 l5 l2 c68 hc68) gwX10_sinkOf hdX10_sinkOf (by decide) rfl (by decide) rfl rfl rfl (Nat.le_of_ble_eq_true rfl) ⟨Nat.zero_le _, Nat.zero_le _⟩ dX10_under_68 rfl rfl ?_
      refine V_iload_n X dX10_under_71 3 rfl ?_
      refine V_icmp_gt (tgt := 100) X dX10_under_72 (by decide) h (fun h => ?_) (fun h => ?_)
      · refine V_iinc X dX10_under_100 5 rfl (by decide) (L' := [(5, vI (l5 + 1)), (0, .ref (xb x + 0)), (1, vI l1), (2, vI l2), (3, vI l3), (4, vI l4)]) rfl ?_
        refine V_goto (tgt := 52) X dX10_under_103 (by decide) ?_
        exact V_sub [1, 2, 3, 4, 5, 0] rfl (hc52 _ (Option.some.inj h).symm)
      · refine V_iload X dX10_under_75 4 rfl ?_
        refine V_iconst X dX10_under_77 ?_
        refine V_icmp_eq (tgt := 96) X dX10_under_78 (by decide) h (fun h => ?_) (fun h => ?_)
        · exact V_sub [0, 1, 2, 3, 5] rfl (J96 _ h)
        · refine V_aload_n X dX10_under_81 0 rfl ?_
          refine V_iload X dX10_under_82 5 rfl ?_
          obtain ⟨c84, hc84, h⟩ := bind_some_eq h
          refine V_callV (As := [vI l5]) (rest := []) (s1 := [vI c84]) (o := 0) X (con_m_onesOf N g l5 c84 hc84) gwX10_onesOf hdX10_onesOf (by decide) rfl (by decide) rfl rfl rfl (Nat.le_of_ble_eq_true rfl) ⟨Nat.zero_le _, Nat.zero_le _⟩ dX10_under_84 rfl rfl ?_
          refine V_aload_n X dX10_under_87 0 rfl ?_
          refine V_iload X dX10_under_88 4 rfl ?_
          obtain ⟨c90, hc90, h⟩ := bind_some_eq h
          refine V_callV (As := [vI l4]) (rest := [vI c84]) (s1 := [vI c90, vI c84]) (o := 0) X (con_m_onesOf N g l4 c90 hc90) gwX10_onesOf hdX10_onesOf (by decide) rfl (by decide) rfl rfl rfl (Nat.le_of_ble_eq_true rfl) ⟨Nat.zero_le _, Nat.zero_le _⟩ dX10_under_90 rfl rfl ?_
          refine V_icmp_ge (tgt := 100) X dX10_under_93 (by decide) h (fun h => ?_) (fun h => ?_)
          · refine V_iinc X dX10_under_100 5 rfl (by decide) (L' := [(5, vI (l5 + 1)), (0, .ref (xb x + 0)), (1, vI l1), (2, vI l2), (3, vI l3), (4, vI l4)]) rfl ?_
            refine V_goto (tgt := 52) X dX10_under_103 (by decide) ?_
            exact V_sub [1, 2, 3, 4, 5, 0] rfl (hc52 _ (Option.some.inj h).symm)
          · exact V_sub [0, 1, 2, 3, 5] rfl (J96 _ h)
  have J36 : ∀ (g : GS) (l1 : Int) (l2 : Int) (l3 : Int) (s0 : Int), m_under_j36 N g l1 l2 l3 s0 = some r → V x 6 Km 0 0 sz g 36 [(0, .ref (xb x + 0)), (1, vI l1), (2, vI l2), (3, vI l3)] [vI s0, .ref (xb x + 0)] := by
    intro g l1 l2 l3 s0 h
    unfold m_under_j36 at h
    refine V_iconst X dX10_under_36 ?_
    refine V_iconst X dX10_under_37 ?_
    obtain ⟨c38, hc38, h⟩ := bind_some_eq h
    refine V_callV (As := [vI s0, vI 1, vI 1]) (rest := []) (s1 := [vI c38.1]) (o := 0) X (con_m_may g s0 1 1 c38 hc38) gwX10_may hdX10_may (by decide) rfl (by decide) rfl rfl rfl (Nat.le_of_ble_eq_true rfl) ⟨Nat.zero_le _, Nat.zero_le _⟩ dX10_under_38 rfl rfl ?_
    refine V_if_ne (tgt := 46) X dX10_under_41 (by decide) h (fun h => ?_) (fun h => ?_)
    · refine V_iconst X dX10_under_46 ?_
      refine V_istore X dX10_under_47 (by decide) (L' := [(4, vI (-1)), (0, .ref (xb x + 0)), (1, vI l1), (2, vI l2), (3, vI l3)]) rfl ?_
      refine V_iconst X dX10_under_49 ?_
      refine V_istore X dX10_under_50 (by decide) (L' := [(5, vI 0), (4, vI (-1)), (0, .ref (xb x + 0)), (1, vI l1), (2, vI l2), (3, vI l3)]) rfl ?_
      exact V_sub [2, 3, 4, 5, 1, 0] rfl (LL52 c38.2 l1 l2 l3 N ((-1), 0) _ h rfl)
    · refine V_iconst X dX10_under_44 ?_
      have hr := Option.some.inj h
      subst hr
      exact V_end_i hX rfl dX10_under_45
  have J35 : ∀ (g : GS) (l1 : Int) (l2 : Int) (l3 : Int), m_under_j35 N g l1 l2 l3 = some r → V x 6 Km 0 0 sz g 35 [(0, .ref (xb x + 0)), (1, vI l1), (2, vI l2), (3, vI l3)] [.ref (xb x + 0)] := by
    intro g l1 l2 l3 h
    unfold m_under_j35 at h
    refine V_iconst X dX10_under_35 ?_
    exact V_sub [0, 1, 2, 3] rfl (J36 _ _ _ _ _ h)
  unfold m_under at h
  show V x 6 Km 0 0 sz g 0 [(0, .ref (xb x + 0)), (1, vI l1), (2, vI l2), (3, vI l3)] []
  refine V_aload_n X dX10_under_0 0 rfl ?_
  refine V_iconst X dX10_under_1 ?_
  refine putX10 X (o := 0) (j := 0) (a := 0) rfl (by decide) rfl rfl rfl q1548 dX10_under_2 ?_
  refine V_aload_n X dX10_under_5 0 rfl ?_
  refine V_iload_n X dX10_under_6 1 rfl ?_
  obtain ⟨c7, hc7, h⟩ := bind_some_eq h
  refine V_callS (As := [vI l1]) (rest := [.ref (xb x + 0)]) (s1 := [vI c7, .ref (xb x + 0)]) X (con_m_isYard (sI g 900 0 0) l1 c7 hc7) gwX10_isYard hdX10_isYard (by decide) rfl rfl (Nat.le_of_ble_eq_true rfl) ⟨Nat.zero_le _, Nat.zero_le _⟩ dX10_under_7 rfl rfl ?_
  refine V_if_eq (tgt := 35) X dX10_under_10 (by decide) h (fun h => ?_) (fun h => ?_)
  · exact V_sub [0, 1, 2, 3] rfl (J35 _ _ _ _ h)
  · refine V_iload_n X dX10_under_13 2 rfl ?_
    obtain ⟨c14, hc14, h⟩ := bind_some_eq h
    refine V_callS (As := [vI l2]) (rest := [.ref (xb x + 0)]) (s1 := [vI c14, .ref (xb x + 0)]) X (con_m_isMinute (sI g 900 0 0) l2 c14 hc14) gwX10_isMinute hdX10_isMinute (by decide) rfl rfl (Nat.le_of_ble_eq_true rfl) ⟨Nat.zero_le _, Nat.zero_le _⟩ dX10_under_14 rfl rfl ?_
    refine V_if_eq (tgt := 35) X dX10_under_17 (by decide) h (fun h => ?_) (fun h => ?_)
    · exact V_sub [0, 1, 2, 3] rfl (J35 _ _ _ _ h)
    · refine V_iload_n X dX10_under_20 3 rfl ?_
      refine V_iconst X dX10_under_21 ?_
      refine V_sipush X dX10_under_22 (by decide) ?_
      obtain ⟨c25, hc25, h⟩ := bind_some_eq h
      refine V_callS (As := [vI l3, vI 0, vI 9999]) (rest := [.ref (xb x + 0)]) (s1 := [vI c25, .ref (xb x + 0)]) X (con_m_within (sI g 900 0 0) l3 0 9999 c25 hc25) gwX10_within hdX10_within (by decide) rfl rfl (Nat.le_of_ble_eq_true rfl) ⟨Nat.zero_le _, Nat.zero_le _⟩ dX10_under_25 rfl rfl ?_
      refine V_if_eq (tgt := 35) X dX10_under_28 (by decide) h (fun h => ?_) (fun h => ?_)
      · exact V_sub [0, 1, 2, 3] rfl (J35 _ _ _ _ h)
      · refine V_iconst X dX10_under_31 ?_
        refine V_goto (tgt := 36) X dX10_under_32 (by decide) ?_
        exact V_sub [0, 1, 2, 3] rfl (J36 _ _ _ _ _ h)
set_option maxHeartbeats 4000000 in
theorem con_m_push (N : Nat) (g : GS) (l1 : Int) (l2 : Int) (l3 : Int) (l4 : Int) (r : (Int × GS)) (h : m_push N g l1 l2 l3 l4 = some r) : Con yX10_push cX10_push 9 (some .int) 3 59 Km (fun b => [.ref (b + 0), vI l1, vI l2, vI l3, vI l4]) g (fun _ => some (vI r.1)) r.2 := by
  refine Con.of RX10 (by decide) rfl (fun b => Nat.le_of_ble_eq_true rfl) (fun x sz hX => ?_)
  have X := hX.1
  have LL64 : ∀ (g : GS) (l1 : Int) (l2 : Int) (l3 : Int) (l4 : Int) (n : Nat) (s : (Int × Int × Int)) (e : (Int × Int)), loopN (fun s => m_push_b64 N g l1 l2 l3 l4 s.1 s.2.1 s.2.2) n s = some e → V x 9 Km 0 0 sz g 131 [(4, vI l4), (5, vI e.1), (6, vI e.2)] [] → V x 9 Km 0 0 sz g 64 [(0, .ref (xb x + 0)), (1, vI l1), (2, vI l2), (3, vI l3), (4, vI l4), (5, vI s.1), (6, vI s.2.1), (7, vI s.2.2)] [] := by
    intro g l1 l2 l3 l4 n s e
    refine loop_walk (P := fun s => V x 9 Km 0 0 sz g 64 [(0, .ref (xb x + 0)), (1, vI l1), (2, vI l2), (3, vI l3), (4, vI l4), (5, vI s.1), (6, vI s.2.1), (7, vI s.2.2)] []) (E := fun e => V x 9 Km 0 0 sz g 131 [(4, vI l4), (5, vI e.1), (6, vI e.2)] []) ?_ n s e
    clear e s n
    rintro ⟨l5, l6, l7⟩ q64 h hc64 he64
    replace h : m_push_b64 N g l1 l2 l3 l4 l5 l6 l7 = some q64 := h
    have J117 : ∀ (l7 : Int) (l8 : Int), m_push_j117 N g l1 l2 l3 l4 l7 l8 = some q64 → V x 9 Km 0 0 sz g 117 [(0, .ref (xb x + 0)), (1, vI l1), (2, vI l2), (3, vI l3), (4, vI l4), (7, vI l7), (8, vI l8)] [] := by
      intro l7 l8 h
      unfold m_push_j117 at h
      refine V_iload X dX10_push_117 5 rfl ?_
      refine V_istore X dX10_push_119 (by decide) (L' := [(5, vI l7), (0, .ref (xb x + 0)), (1, vI l1), (2, vI l2), (3, vI l3), (4, vI l4), (7, vI l7), (8, vI l8)]) rfl ?_
      refine V_iload X dX10_push_121 7 rfl ?_
      refine V_istore X dX10_push_123 (by decide) (L' := [(6, vI l8), (5, vI l7), (0, .ref (xb x + 0)), (1, vI l1), (2, vI l2), (3, vI l3), (4, vI l4), (7, vI l7), (8, vI l8)]) rfl ?_
      refine V_iinc X dX10_push_125 7 rfl (by decide) (L' := [(7, vI (l7 + 1)), (6, vI l8), (5, vI l7), (0, .ref (xb x + 0)), (1, vI l1), (2, vI l2), (3, vI l3), (4, vI l4), (8, vI l8)]) rfl ?_
      refine V_goto (tgt := 64) X dX10_push_128 (by decide) ?_
      exact V_sub [3, 4, 5, 6, 7, 2, 1, 0] rfl (hc64 _ (Option.some.inj h).symm)
    have J89 : ∀ (l5 : Int) (l6 : Int) (l7 : Int) (s0 : Int) (s1 : Int), m_push_j89 N g l1 l2 l3 l4 l5 l6 l7 s0 s1 = some q64 → V x 9 Km 0 0 sz g 89 [(0, .ref (xb x + 0)), (1, vI l1), (2, vI l2), (3, vI l3), (4, vI l4), (5, vI l5), (6, vI l6), (7, vI l7)] [vI s0, vI s1] := by
      intro l5 l6 l7 s0 s1 h
      unfold m_push_j89 at h
      refine V_imul X dX10_push_89 ?_
      refine V_aload_n X dX10_push_90 0 rfl ?_
      refine V_iload X dX10_push_91 7 rfl ?_
      refine V_iconst X dX10_push_93 ?_
      refine V_iload_n X dX10_push_94 3 rfl ?_
      obtain ⟨c95, hc95, h⟩ := bind_some_eq h
      refine V_callV (As := [vI l7, vI 0, vI l3]) (rest := [vI (s1 * s0)]) (s1 := [vI c95, vI (s1 * s0)]) (o := 0) X (con_m_sinkOf N g l7 0 l3 c95 hc95) gwX10_sinkOf hdX10_sinkOf (by decide) rfl (by decide) rfl rfl rfl (Nat.le_of_ble_eq_true rfl) ⟨Nat.zero_le _, Nat.zero_le _⟩ dX10_push_95 rfl rfl ?_
      refine V_iadd X dX10_push_98 ?_
      refine V_istore X dX10_push_99 (by decide) (L' := [(8, vI ((s1 * s0) + c95)), (0, .ref (xb x + 0)), (1, vI l1), (2, vI l2), (3, vI l3), (4, vI l4), (5, vI l5), (6, vI l6), (7, vI l7)]) rfl ?_
      refine V_iload X dX10_push_101 6 rfl ?_
      refine V_iconst X dX10_push_103 ?_
      refine V_icmp_eq (tgt := 117) X dX10_push_104 (by decide) h (fun h => ?_) (fun h => ?_)
      · exact V_sub [1, 2, 3, 4, 5, 8, 0] rfl (J117 _ _ h)
      · refine V_iload X dX10_push_107 0 rfl ?_
        refine V_iload X dX10_push_109 7 rfl ?_
        refine V_icmp_lt (tgt := 117) X dX10_push_111 (by decide) h (fun h => ?_) (fun h => ?_)
        · exact V_sub [1, 2, 3, 4, 5, 8, 0] rfl (J117 _ _ h)
        · refine V_goto (tgt := 125) X dX10_push_114 (by decide) ?_
          refine V_iinc X dX10_push_125 8 rfl (by decide) (L' := [(7, vI (l7 + 1)), (8, vI ((s1 * s0) + c95)), (0, .ref (xb x + 0)), (1, vI l1), (2, vI l2), (3, vI l3), (4, vI l4), (5, vI l5), (6, vI l6)]) rfl ?_
          refine V_goto (tgt := 64) X dX10_push_128 (by decide) ?_
          exact V_sub [2, 3, 4, 5, 6, 7, 8, 0] rfl (hc64 _ (Option.some.inj h).symm)
    unfold m_push_b64 at h
    show V x 9 Km 0 0 sz g 64 [(0, .ref (xb x + 0)), (1, vI l1), (2, vI l2), (3, vI l3), (4, vI l4), (5, vI l5), (6, vI l6), (7, vI l7)] []
    refine V_iload X dX10_push_64 7 rfl ?_
    refine V_bipush X dX10_push_66 (by decide) ?_
    refine V_icmp_ge (tgt := 131) X dX10_push_68 (by decide) h (fun h => ?_) (fun h => ?_)
    · exact V_sub [4, 5, 6] rfl (he64 _ (Option.some.inj h).symm)
    · refine V_iload_n X dX10_push_71 2 rfl ?_
      refine V_iload X dX10_push_72 7 rfl ?_
      refine V_iload_n X dX10_push_74 1 rfl ?_
      refine V_icmp_ge (tgt := 85) X dX10_push_75 (by decide) h (fun h => ?_) (fun h => ?_)
      · refine V_iload X dX10_push_85 7 rfl ?_
        refine V_iload_n X dX10_push_87 1 rfl ?_
        refine V_isub X dX10_push_88 ?_
        exact V_sub [0, 1, 2, 3, 4, 5, 6, 7] rfl (J89 _ _ _ _ _ h)
      · refine V_iload_n X dX10_push_78 1 rfl ?_
        refine V_iload X dX10_push_79 7 rfl ?_
        refine V_isub X dX10_push_81 ?_
        refine V_goto (tgt := 89) X dX10_push_82 (by decide) ?_
        exact V_sub [0, 1, 2, 3, 4, 5, 6, 7] rfl (J89 _ _ _ _ _ h)
  have J45 : ∀ (g : GS) (l1 : Int) (l2 : Int) (l3 : Int) (l4 : Int) (s0 : Int), m_push_j45 N g l1 l2 l3 l4 s0 = some r → V x 9 Km 0 0 sz g 45 [(0, .ref (xb x + 0)), (1, vI l1), (2, vI l2), (3, vI l3), (4, vI l4)] [vI s0, .ref (xb x + 0)] := by
    intro g l1 l2 l3 l4 s0 h
    unfold m_push_j45 at h
    refine V_iconst X dX10_push_45 ?_
    refine V_iconst X dX10_push_46 ?_
    obtain ⟨c47, hc47, h⟩ := bind_some_eq h
    refine V_callV (As := [vI s0, vI 1, vI 1]) (rest := []) (s1 := [vI c47.1]) (o := 0) X (con_m_may g s0 1 1 c47 hc47) gwX10_may hdX10_may (by decide) rfl (by decide) rfl rfl rfl (Nat.le_of_ble_eq_true rfl) ⟨Nat.zero_le _, Nat.zero_le _⟩ dX10_push_47 rfl rfl ?_
    refine V_if_ne (tgt := 55) X dX10_push_50 (by decide) h (fun h => ?_) (fun h => ?_)
    · refine V_iconst X dX10_push_55 ?_
      refine V_istore X dX10_push_56 (by decide) (L' := [(5, vI (-1)), (0, .ref (xb x + 0)), (1, vI l1), (2, vI l2), (3, vI l3), (4, vI l4)]) rfl ?_
      refine V_iconst X dX10_push_58 ?_
      refine V_istore X dX10_push_59 (by decide) (L' := [(6, vI 0), (5, vI (-1)), (0, .ref (xb x + 0)), (1, vI l1), (2, vI l2), (3, vI l3), (4, vI l4)]) rfl ?_
      refine V_iconst X dX10_push_61 ?_
      refine V_istore X dX10_push_62 (by decide) (L' := [(7, vI 0), (6, vI 0), (5, vI (-1)), (0, .ref (xb x + 0)), (1, vI l1), (2, vI l2), (3, vI l3), (4, vI l4)]) rfl ?_
      obtain ⟨t1, t1q, h⟩ := bind_some_eq h
      refine V_sub [3, 4, 5, 6, 7, 2, 1, 0] rfl (LL64 c47.2 l1 l2 l3 l4 N ((-1), 0, 0) _ t1q ?_)
      refine V_iload X dX10_push_131 0 rfl ?_
      refine V_if_ne (tgt := 141) X dX10_push_133 (by decide) h (fun h => ?_) (fun h => ?_)
      · refine V_iload X dX10_push_141 2 rfl ?_
        have hr := Option.some.inj h
        subst hr
        exact V_end_i hX rfl dX10_push_143
      · refine V_iload X dX10_push_136 1 rfl ?_
        refine V_goto (tgt := 143) X dX10_push_138 (by decide) ?_
        have hr := Option.some.inj h
        subst hr
        exact V_end_i hX rfl dX10_push_143
    · refine V_iconst X dX10_push_53 ?_
      have hr := Option.some.inj h
      subst hr
      exact V_end_i hX rfl dX10_push_54
  have J44 : ∀ (g : GS) (l1 : Int) (l2 : Int) (l3 : Int) (l4 : Int), m_push_j44 N g l1 l2 l3 l4 = some r → V x 9 Km 0 0 sz g 44 [(0, .ref (xb x + 0)), (1, vI l1), (2, vI l2), (3, vI l3), (4, vI l4)] [.ref (xb x + 0)] := by
    intro g l1 l2 l3 l4 h
    unfold m_push_j44 at h
    refine V_iconst X dX10_push_44 ?_
    exact V_sub [0, 1, 2, 3, 4] rfl (J45 _ _ _ _ _ _ h)
  unfold m_push at h
  show V x 9 Km 0 0 sz g 0 [(0, .ref (xb x + 0)), (1, vI l1), (2, vI l2), (3, vI l3), (4, vI l4)] []
  refine V_aload_n X dX10_push_0 0 rfl ?_
  refine V_iconst X dX10_push_1 ?_
  refine putX10 X (o := 0) (j := 0) (a := 0) rfl (by decide) rfl rfl rfl q1548 dX10_push_2 ?_
  refine V_aload_n X dX10_push_5 0 rfl ?_
  refine V_iload_n X dX10_push_6 1 rfl ?_
  obtain ⟨c7, hc7, h⟩ := bind_some_eq h
  refine V_callS (As := [vI l1]) (rest := [.ref (xb x + 0)]) (s1 := [vI c7, .ref (xb x + 0)]) X (con_m_isYard (sI g 900 0 0) l1 c7 hc7) gwX10_isYard hdX10_isYard (by decide) rfl rfl (Nat.le_of_ble_eq_true rfl) ⟨Nat.zero_le _, Nat.zero_le _⟩ dX10_push_7 rfl rfl ?_
  refine V_if_eq (tgt := 44) X dX10_push_10 (by decide) h (fun h => ?_) (fun h => ?_)
  · exact V_sub [0, 1, 2, 3, 4] rfl (J44 _ _ _ _ _ h)
  · refine V_iload_n X dX10_push_13 2 rfl ?_
    refine V_iconst X dX10_push_14 ?_
    refine V_bipush X dX10_push_15 (by decide) ?_
    obtain ⟨c17, hc17, h⟩ := bind_some_eq h
    refine V_callS (As := [vI l2, vI 0, vI 99]) (rest := [.ref (xb x + 0)]) (s1 := [vI c17, .ref (xb x + 0)]) X (con_m_within (sI g 900 0 0) l2 0 99 c17 hc17) gwX10_within hdX10_within (by decide) rfl rfl (Nat.le_of_ble_eq_true rfl) ⟨Nat.zero_le _, Nat.zero_le _⟩ dX10_push_17 rfl rfl ?_
    refine V_if_eq (tgt := 44) X dX10_push_20 (by decide) h (fun h => ?_) (fun h => ?_)
    · exact V_sub [0, 1, 2, 3, 4] rfl (J44 _ _ _ _ _ h)
    · refine V_iload_n X dX10_push_23 3 rfl ?_
      obtain ⟨c24, hc24, h⟩ := bind_some_eq h
      refine V_callS (As := [vI l3]) (rest := [.ref (xb x + 0)]) (s1 := [vI c24, .ref (xb x + 0)]) X (con_m_isMinute (sI g 900 0 0) l3 c24 hc24) gwX10_isMinute hdX10_isMinute (by decide) rfl rfl (Nat.le_of_ble_eq_true rfl) ⟨Nat.zero_le _, Nat.zero_le _⟩ dX10_push_24 rfl rfl ?_
      refine V_if_eq (tgt := 44) X dX10_push_27 (by decide) h (fun h => ?_) (fun h => ?_)
      · exact V_sub [0, 1, 2, 3, 4] rfl (J44 _ _ _ _ _ h)
      · refine V_iload X dX10_push_30 4 rfl ?_
        refine V_iconst X dX10_push_32 ?_
        refine V_iconst X dX10_push_33 ?_
        obtain ⟨c34, hc34, h⟩ := bind_some_eq h
        refine V_callS (As := [vI l4, vI 0, vI 1]) (rest := [.ref (xb x + 0)]) (s1 := [vI c34, .ref (xb x + 0)]) X (con_m_within (sI g 900 0 0) l4 0 1 c34 hc34) gwX10_within hdX10_within (by decide) rfl rfl (Nat.le_of_ble_eq_true rfl) ⟨Nat.zero_le _, Nat.zero_le _⟩ dX10_push_34 rfl rfl ?_
        refine V_if_eq (tgt := 44) X dX10_push_37 (by decide) h (fun h => ?_) (fun h => ?_)
        · exact V_sub [0, 1, 2, 3, 4] rfl (J44 _ _ _ _ _ h)
        · refine V_iconst X dX10_push_40 ?_
          refine V_goto (tgt := 45) X dX10_push_41 (by decide) ?_
          exact V_sub [0, 1, 2, 3, 4] rfl (J45 _ _ _ _ _ _ h)
set_option maxHeartbeats 4000000 in
theorem con_m_least (N : Nat) (g : GS) (l0 : Int) (l2 : Int) (l4 : Int) (r : Int) (h : m_least N l0 l2 l4 = some r) : Con yX10_least cX10_least 11 (some .long) 1 12 Km (fun b => [vL l0, vL l2, vI l4]) g (fun _ => some (vL r)) g := by
  refine Con.of RX10 (by decide) rfl (fun b => Nat.le_of_ble_eq_true rfl) (fun x sz hX => ?_)
  have X := hX.1
  have J41 : ∀ (l5 : Int) (s0 : Int), m_least_j41 N l5 s0 = some r → V x 11 Km 0 0 sz g 41 [(5, vL l5)] [vL s0] := by
    intro l5 s0 h
    unfold m_least_j41 at h
    refine V_lload X dX10_least_41 0 rfl ?_
    refine V_ldiv X dX10_least_43 h (fun h => ?_)
    have hr := Option.some.inj h
    subst hr
    exact V_end_l hX rfl dX10_least_44
  have LL6 : ∀ (l0 : Int) (l2 : Int) (l4 : Int) (n : Nat) (s : (Int × Int)) (e : (Int)), loopN (fun s => m_least_b6 N l0 l2 l4 s.1 s.2) n s = some e → V x 11 Km 0 0 sz g 31 [(0, vL l0), (2, vL l2), (4, vI l4), (5, vL e)] [] → V x 11 Km 0 0 sz g 6 [(0, vL l0), (2, vL l2), (4, vI l4), (5, vL s.1), (7, vL s.2)] [] := by
    intro l0 l2 l4 n s e
    refine loop_walk (P := fun s => V x 11 Km 0 0 sz g 6 [(0, vL l0), (2, vL l2), (4, vI l4), (5, vL s.1), (7, vL s.2)] []) (E := fun e => V x 11 Km 0 0 sz g 31 [(0, vL l0), (2, vL l2), (4, vI l4), (5, vL e)] []) ?_ n s e
    clear e s n
    rintro ⟨l5, l7⟩ q6 h hc6 he6
    replace h : m_least_b6 N l0 l2 l4 l5 l7 = some q6 := h
    unfold m_least_b6 at h
    show V x 11 Km 0 0 sz g 6 [(0, vL l0), (2, vL l2), (4, vI l4), (5, vL l5), (7, vL l7)] []
    refine V_lload X dX10_least_6 4 rfl ?_
    refine V_lconst X (a := 0) dX10_least_8 (by decide) ?_
    refine V_lcmp X dX10_least_9 ?_
    refine V_if_eq (tgt := 31) X dX10_least_10 (by decide) h (fun h => ?_) (fun h => ?_)
    · exact V_sub [0, 1, 2, 3] rfl (he6 _ (Option.some.inj h).symm)
    · refine V_lload X dX10_least_13 3 rfl ?_
      refine V_lload X dX10_least_15 4 rfl ?_
      refine V_lrem X dX10_least_17 h (fun h => ?_)
      refine V_lstore X dX10_least_18 (by decide) (L' := [(9, vL (l_rem l5 l7)), (0, vL l0), (2, vL l2), (4, vI l4), (5, vL l5), (7, vL l7)]) rfl ?_
      refine V_lload X dX10_least_20 5 rfl ?_
      refine V_lstore X dX10_least_22 (by decide) (L' := [(5, vL l7), (9, vL (l_rem l5 l7)), (0, vL l0), (2, vL l2), (4, vI l4), (7, vL l7)]) rfl ?_
      refine V_lload X dX10_least_24 1 rfl ?_
      refine V_lstore X dX10_least_26 (by decide) (L' := [(7, vL (l_rem l5 l7)), (5, vL l7), (9, vL (l_rem l5 l7)), (0, vL l0), (2, vL l2), (4, vI l4)]) rfl ?_
      refine V_goto (tgt := 6) X dX10_least_28 (by decide) ?_
      exact V_sub [3, 4, 5, 1, 0] rfl (hc6 _ (Option.some.inj h).symm)
  unfold m_least at h
  show V x 11 Km 0 0 sz g 0 [(0, vL l0), (2, vL l2), (4, vI l4)] []
  refine V_lload_n X dX10_least_0 0 rfl ?_
  refine V_lstore X dX10_least_1 (by decide) (L' := [(5, vL l0), (0, vL l0), (2, vL l2), (4, vI l4)]) rfl ?_
  refine V_lload_n X dX10_least_3 2 rfl ?_
  refine V_lstore X dX10_least_4 (by decide) (L' := [(7, vL l2), (5, vL l0), (0, vL l0), (2, vL l2), (4, vI l4)]) rfl ?_
  obtain ⟨t1, t1q, h⟩ := bind_some_eq h
  refine V_sub [2, 3, 4, 1, 0] rfl (LL6 l0 l2 l4 N (l0, l2) _ t1q ?_)
  refine V_iload X dX10_least_31 2 rfl ?_
  refine V_if_ne (tgt := 40) X dX10_least_33 (by decide) h (fun h => ?_) (fun h => ?_)
  · refine V_lload_n X dX10_least_40 1 rfl ?_
    exact V_sub [3] rfl (J41 _ _ h)
  · refine V_lload_n X dX10_least_36 0 rfl ?_
    refine V_goto (tgt := 41) X dX10_least_37 (by decide) ?_
    exact V_sub [3] rfl (J41 _ _ h)
set_option maxHeartbeats 4000000 in
theorem con_m_power (N : Nat) (g : GS) (l0 : Int) (l2 : Int) (r : Int) (h : m_power N l0 l2 = some r) : Con yX10_power cX10_power 6 (some .long) 1 12 Km (fun b => [vL l0, vI l2]) g (fun _ => some (vL r)) g := by
  refine Con.of RX10 (by decide) rfl (fun b => Nat.le_of_ble_eq_true rfl) (fun x sz hX => ?_)
  have X := hX.1
  have LL5 : ∀ (l0 : Int) (l2 : Int) (n : Nat) (s : (Int × Int)) (e : Int), loopN (fun s => m_power_b5 N l0 l2 s.1 s.2) n s = some e → (e = r) → V x 6 Km 0 0 sz g 5 [(0, vL l0), (2, vI l2), (3, vL s.1), (5, vI s.2)] [] := by
    intro l0 l2 n s e
    refine loop_walk (P := fun s => V x 6 Km 0 0 sz g 5 [(0, vL l0), (2, vI l2), (3, vL s.1), (5, vI s.2)] []) (E := fun e => e = r) ?_ n s e
    clear e s n
    rintro ⟨l3, l5⟩ q5 h hc5 he5
    replace h : m_power_b5 N l0 l2 l3 l5 = some q5 := h
    unfold m_power_b5 at h
    show V x 6 Km 0 0 sz g 5 [(0, vL l0), (2, vI l2), (3, vL l3), (5, vI l5)] []
    refine V_iload X dX10_power_5 3 rfl ?_
    refine V_iload_n X dX10_power_7 1 rfl ?_
    refine V_icmp_ge (tgt := 21) X dX10_power_8 (by decide) h (fun h => ?_) (fun h => ?_)
    · obtain ⟨e1, h, e1q⟩ := outR_some h
      replace h := h.trans (congrArg some (he5 _ e1q))
      refine V_lload_n X dX10_power_21 2 rfl ?_
      have hr := Option.some.inj h
      subst hr
      exact V_end_l hX rfl dX10_power_22
    · refine V_lload_n X dX10_power_11 2 rfl ?_
      refine V_lload_n X dX10_power_12 0 rfl ?_
      refine V_lmul X dX10_power_13 ?_
      refine V_lstore_n X dX10_power_14 (by decide) (L' := [(3, vL (l3 * l0)), (0, vL l0), (2, vI l2), (5, vI l5)]) rfl ?_
      refine V_iinc X dX10_power_15 3 rfl (by decide) (L' := [(5, vI (l5 + 1)), (3, vL (l3 * l0)), (0, vL l0), (2, vI l2)]) rfl ?_
      refine V_goto (tgt := 5) X dX10_power_18 (by decide) ?_
      exact V_sub [2, 3, 1, 0] rfl (hc5 _ (Option.some.inj h).symm)
  unfold m_power at h
  show V x 6 Km 0 0 sz g 0 [(0, vL l0), (2, vI l2)] []
  refine V_lconst X (a := 1) dX10_power_0 (by decide) ?_
  refine V_lstore_n X dX10_power_1 (by decide) (L' := [(3, vL 1), (0, vL l0), (2, vI l2)]) rfl ?_
  refine V_iconst X dX10_power_2 ?_
  refine V_istore X dX10_power_3 (by decide) (L' := [(5, vI 0), (3, vL 1), (0, vL l0), (2, vI l2)]) rfl ?_
  exact V_sub [2, 3, 1, 0] rfl (LL5 l0 l2 N (1, 0) _ h rfl)
set_option maxHeartbeats 4000000 in
theorem con_m_easeOf (g : GS) (l1 : Int) (l2 : Int) (r : Int) (h : m_easeOf g l1 l2 = some r) : Con yX10_easeOf cX10_easeOf 4 (some .int) 1 12 Km (fun b => [.ref (b + 0), vI l1, vI l2]) g (fun _ => some (vI r)) g := by
  refine Con.of RX10 (by decide) rfl (fun b => Nat.le_of_ble_eq_true rfl) (fun x sz hX => ?_)
  have X := hX.1
  unfold m_easeOf at h
  show V x 4 Km 0 0 sz g 0 [(0, .ref (xb x + 0)), (1, vI l1), (2, vI l2)] []
  refine V_iconst X dX10_easeOf_0 ?_
  refine V_iload_n X dX10_easeOf_1 2 rfl ?_
  refine V_imul X dX10_easeOf_2 ?_
  refine V_aload_n X dX10_easeOf_3 0 rfl ?_
  refine getX10 X (o := 0) (j := 20) rfl (by decide) q1568 (fv_1 (i := 13) rfl rfl) dX10_easeOf_4 ?_
  refine V_iload_n X dX10_easeOf_7 1 rfl ?_
  refine V_iald X (o := 13) (n := 8) rfl (by decide) dX10_easeOf_8 h (fun v8 h => ?_)
  refine V_isub X dX10_easeOf_9 ?_
  refine V_istore_n X dX10_easeOf_10 (by decide) (L' := [(3, vI ((2 * l2) - v8)), (0, .ref (xb x + 0)), (1, vI l1), (2, vI l2)]) rfl ?_
  refine V_iload_n X dX10_easeOf_11 0 rfl ?_
  refine V_if_ge (tgt := 19) X dX10_easeOf_12 (by decide) h (fun h => ?_) (fun h => ?_)
  · refine V_iload_n X dX10_easeOf_19 0 rfl ?_
    refine V_bipush X dX10_easeOf_20 (by decide) ?_
    refine V_icmp_le (tgt := 30) X dX10_easeOf_22 (by decide) h (fun h => ?_) (fun h => ?_)
    · refine V_iload_n X dX10_easeOf_30 0 rfl ?_
      have hr := Option.some.inj h
      subst hr
      exact V_end_i hX rfl dX10_easeOf_31
    · refine V_bipush X dX10_easeOf_25 (by decide) ?_
      refine V_goto (tgt := 31) X dX10_easeOf_27 (by decide) ?_
      have hr := Option.some.inj h
      subst hr
      exact V_end_i hX rfl dX10_easeOf_31
  · refine V_iconst X dX10_easeOf_15 ?_
    refine V_goto (tgt := 31) X dX10_easeOf_16 (by decide) ?_
    have hr := Option.some.inj h
    subst hr
    exact V_end_i hX rfl dX10_easeOf_31
set_option maxHeartbeats 4000000 in
theorem con_m_stuck (N : Nat) (g : GS) (l1 : Int) (l2 : Int) (l3 : Int) (r : Int) (h : m_stuck N g l1 l2 l3 = some r) : Con yX10_stuck cX10_stuck 4 (some .long) 2 37 Km (fun b => [.ref (b + 0), vI l1, vI l2, vI l3]) g (fun _ => some (vL r)) g := by
  refine Con.of RX10 (by decide) rfl (fun b => Nat.le_of_ble_eq_true rfl) (fun x sz hX => ?_)
  have X := hX.1
  unfold m_stuck at h
  show V x 4 Km 0 0 sz g 0 [(0, .ref (xb x + 0)), (1, vI l1), (2, vI l2), (3, vI l3)] []
  refine V_bipush X dX10_stuck_0 (by decide) ?_
  refine V_aload_n X dX10_stuck_2 0 rfl ?_
  refine V_iload_n X dX10_stuck_3 1 rfl ?_
  refine V_iload_n X dX10_stuck_4 3 rfl ?_
  obtain ⟨c5, hc5, h⟩ := bind_some_eq h
  refine V_callV (As := [vI l1, vI l3]) (rest := [vI 16]) (s1 := [vI c5, vI 16]) (o := 0) X (con_m_easeOf g l1 l3 c5 hc5) gwX10_easeOf hdX10_easeOf (by decide) rfl (by decide) rfl rfl rfl (Nat.le_of_ble_eq_true rfl) ⟨Nat.zero_le _, Nat.zero_le _⟩ dX10_stuck_5 rfl rfl ?_
  refine V_isub X dX10_stuck_8 ?_
  refine V_i2l X dX10_stuck_9 ?_
  refine V_iload_n X dX10_stuck_10 2 rfl ?_
  obtain ⟨c11, hc11, h⟩ := bind_some_eq h
  refine V_callS (As := [vL (w32 (16 - c5)), vI l2]) (rest := []) (s1 := [vL c11]) X (con_m_power N g (w32 (16 - c5)) l2 c11 hc11) gwX10_power hdX10_power (by decide) rfl rfl (Nat.le_of_ble_eq_true rfl) ⟨Nat.zero_le _, Nat.zero_le _⟩ dX10_stuck_11 rfl rfl ?_
  have hr := Option.some.inj h
  subst hr
  exact V_end_l hX rfl dX10_stuck_14
set_option maxHeartbeats 4000000 in
theorem con_m_tries (N : Nat) (g : GS) (l1 : Int) (l2 : Int) (l3 : Int) (l4 : Int) (r : (Int × GS)) (h : m_tries N g l1 l2 l3 l4 = some r) : Con yX10_tries cX10_tries 5 (some .long) 3 60 Km (fun b => [.ref (b + 0), vI l1, vI l2, vI l3, vI l4]) g (fun _ => some (vL r.1)) r.2 := by
  refine Con.of RX10 (by decide) rfl (fun b => Nat.le_of_ble_eq_true rfl) (fun x sz hX => ?_)
  have X := hX.1
  have J58 : ∀ (g : GS), m_tries_j58 N g = some r → V x 5 Km 0 0 sz g 58 [] [] := by
    intro g h
    unfold m_tries_j58 at h
    refine V_lconst X (a := 0) dX10_tries_58 (by decide) ?_
    have hr := Option.some.inj h
    subst hr
    exact V_end_l hX rfl dX10_tries_59
  have J50 : ∀ (g : GS) (l1 : Int) (l2 : Int) (l3 : Int) (l4 : Int) (s0 : Int), m_tries_j50 N g l1 l2 l3 l4 s0 = some r → V x 5 Km 0 0 sz g 50 [(0, .ref (xb x + 0)), (1, vI l1), (2, vI l2), (3, vI l3), (4, vI l4)] [vI s0, .ref (xb x + 0)] := by
    intro g l1 l2 l3 l4 s0 h
    unfold m_tries_j50 at h
    refine V_iconst X dX10_tries_50 ?_
    refine V_iconst X dX10_tries_51 ?_
    obtain ⟨c52, hc52, h⟩ := bind_some_eq h
    refine V_callV (As := [vI s0, vI 2, vI 1]) (rest := []) (s1 := [vI c52.1]) (o := 0) X (con_m_may g s0 2 1 c52 hc52) gwX10_may hdX10_may (by decide) rfl (by decide) rfl rfl rfl (Nat.le_of_ble_eq_true rfl) ⟨Nat.zero_le _, Nat.zero_le _⟩ dX10_tries_52 rfl rfl ?_
    refine V_if_ne (tgt := 60) X dX10_tries_55 (by decide) h (fun h => ?_) (fun h => ?_)
    · refine V_ldc2 X q2099 (n := 16) (by decide) dX10_tries_60 ?_
      refine V_iload_n X dX10_tries_63 2 rfl ?_
      obtain ⟨c64, hc64, h⟩ := bind_some_eq h
      refine V_callS (As := [vL 16, vI l2]) (rest := []) (s1 := [vL c64]) X (con_m_power N c52.2 16 l2 c64 hc64) gwX10_power hdX10_power (by decide) rfl rfl (Nat.le_of_ble_eq_true rfl) ⟨Nat.zero_le _, Nat.zero_le _⟩ dX10_tries_64 rfl rfl ?_
      refine V_aload_n X dX10_tries_67 0 rfl ?_
      refine V_iload_n X dX10_tries_68 1 rfl ?_
      refine V_iload_n X dX10_tries_69 2 rfl ?_
      refine V_iload_n X dX10_tries_70 3 rfl ?_
      obtain ⟨c71, hc71, h⟩ := bind_some_eq h
      refine V_callV (As := [vI l1, vI l2, vI l3]) (rest := [vL c64]) (s1 := [vL c71, vL c64]) (o := 0) X (con_m_stuck N c52.2 l1 l2 l3 c71 hc71) gwX10_stuck hdX10_stuck (by decide) rfl (by decide) rfl rfl rfl (Nat.le_of_ble_eq_true rfl) ⟨Nat.zero_le _, Nat.zero_le _⟩ dX10_tries_71 rfl rfl ?_
      refine V_lsub X dX10_tries_74 ?_
      refine V_ldc2 X q2099 (n := 16) (by decide) dX10_tries_75 ?_
      refine V_iload_n X dX10_tries_78 2 rfl ?_
      obtain ⟨c79, hc79, h⟩ := bind_some_eq h
      refine V_callS (As := [vL 16, vI l2]) (rest := [vL (c64 - c71)]) (s1 := [vL c79, vL (c64 - c71)]) X (con_m_power N c52.2 16 l2 c79 hc79) gwX10_power hdX10_power (by decide) rfl rfl (Nat.le_of_ble_eq_true rfl) ⟨Nat.zero_le _, Nat.zero_le _⟩ dX10_tries_79 rfl rfl ?_
      refine V_iload X dX10_tries_82 4 rfl ?_
      obtain ⟨c84, hc84, h⟩ := bind_some_eq h
      refine V_callS (As := [vL (c64 - c71), vL c79, vI l4]) (rest := []) (s1 := [vL c84]) X (con_m_least N c52.2 (c64 - c71) c79 l4 c84 hc84) gwX10_least hdX10_least (by decide) rfl rfl (Nat.le_of_ble_eq_true rfl) ⟨Nat.zero_le _, Nat.zero_le _⟩ dX10_tries_84 rfl rfl ?_
      have hr := Option.some.inj h
      subst hr
      exact V_end_l hX rfl dX10_tries_87
    · exact V_sub [] rfl (J58 _ h)
  have J49 : ∀ (g : GS) (l1 : Int) (l2 : Int) (l3 : Int) (l4 : Int), m_tries_j49 N g l1 l2 l3 l4 = some r → V x 5 Km 0 0 sz g 49 [(0, .ref (xb x + 0)), (1, vI l1), (2, vI l2), (3, vI l3), (4, vI l4)] [.ref (xb x + 0)] := by
    intro g l1 l2 l3 l4 h
    unfold m_tries_j49 at h
    refine V_iconst X dX10_tries_49 ?_
    exact V_sub [0, 1, 2, 3, 4] rfl (J50 _ _ _ _ _ _ h)
  unfold m_tries at h
  show V x 5 Km 0 0 sz g 0 [(0, .ref (xb x + 0)), (1, vI l1), (2, vI l2), (3, vI l3), (4, vI l4)] []
  refine V_aload_n X dX10_tries_0 0 rfl ?_
  refine V_iconst X dX10_tries_1 ?_
  refine putX10 X (o := 0) (j := 0) (a := 0) rfl (by decide) rfl rfl rfl q1548 dX10_tries_2 ?_
  refine V_aload_n X dX10_tries_5 0 rfl ?_
  refine V_iload_n X dX10_tries_6 1 rfl ?_
  refine V_iconst X dX10_tries_7 ?_
  obtain ⟨c8, hc8, h⟩ := bind_some_eq h
  refine V_callV (As := [vI l1, vI 1]) (rest := []) (s1 := [vI c8.1]) (o := 0) X (con_m_isNut (sI g 900 0 0) l1 1 c8 hc8) gwX10_isNut hdX10_isNut (by decide) rfl (by decide) rfl rfl rfl (Nat.le_of_ble_eq_true rfl) ⟨Nat.zero_le _, Nat.zero_le _⟩ dX10_tries_8 rfl rfl ?_
  refine V_if_eq (tgt := 58) X dX10_tries_11 (by decide) h (fun h => ?_) (fun h => ?_)
  · exact V_sub [] rfl (J58 _ h)
  · refine V_aload_n X dX10_tries_14 0 rfl ?_
    refine V_iload_n X dX10_tries_15 2 rfl ?_
    refine V_iconst X dX10_tries_16 ?_
    refine V_bipush X dX10_tries_17 (by decide) ?_
    obtain ⟨c19, hc19, h⟩ := bind_some_eq h
    refine V_callS (As := [vI l2, vI 0, vI 7]) (rest := [.ref (xb x + 0)]) (s1 := [vI c19, .ref (xb x + 0)]) X (con_m_within c8.2 l2 0 7 c19 hc19) gwX10_within hdX10_within (by decide) rfl rfl (Nat.le_of_ble_eq_true rfl) ⟨Nat.zero_le _, Nat.zero_le _⟩ dX10_tries_19 rfl rfl ?_
    refine V_if_eq (tgt := 49) X dX10_tries_22 (by decide) h (fun h => ?_) (fun h => ?_)
    · exact V_sub [0, 1, 2, 3, 4] rfl (J49 _ _ _ _ _ h)
    · refine V_iload_n X dX10_tries_25 3 rfl ?_
      refine V_iconst X dX10_tries_26 ?_
      refine V_bipush X dX10_tries_27 (by decide) ?_
      obtain ⟨c29, hc29, h⟩ := bind_some_eq h
      refine V_callS (As := [vI l3, vI 0, vI 18]) (rest := [.ref (xb x + 0)]) (s1 := [vI c29, .ref (xb x + 0)]) X (con_m_within c8.2 l3 0 18 c29 hc29) gwX10_within hdX10_within (by decide) rfl rfl (Nat.le_of_ble_eq_true rfl) ⟨Nat.zero_le _, Nat.zero_le _⟩ dX10_tries_29 rfl rfl ?_
      refine V_if_eq (tgt := 49) X dX10_tries_32 (by decide) h (fun h => ?_) (fun h => ?_)
      · exact V_sub [0, 1, 2, 3, 4] rfl (J49 _ _ _ _ _ h)
      · refine V_iload X dX10_tries_35 4 rfl ?_
        refine V_iconst X dX10_tries_37 ?_
        refine V_iconst X dX10_tries_38 ?_
        obtain ⟨c39, hc39, h⟩ := bind_some_eq h
        refine V_callS (As := [vI l4, vI 0, vI 1]) (rest := [.ref (xb x + 0)]) (s1 := [vI c39, .ref (xb x + 0)]) X (con_m_within c8.2 l4 0 1 c39 hc39) gwX10_within hdX10_within (by decide) rfl rfl (Nat.le_of_ble_eq_true rfl) ⟨Nat.zero_le _, Nat.zero_le _⟩ dX10_tries_39 rfl rfl ?_
        refine V_if_eq (tgt := 49) X dX10_tries_42 (by decide) h (fun h => ?_) (fun h => ?_)
        · exact V_sub [0, 1, 2, 3, 4] rfl (J49 _ _ _ _ _ h)
        · refine V_iconst X dX10_tries_45 ?_
          refine V_goto (tgt := 50) X dX10_tries_46 (by decide) ?_
          exact V_sub [0, 1, 2, 3, 4] rfl (J50 _ _ _ _ _ _ h)
set_option maxHeartbeats 4000000 in
theorem con_m_half (N : Nat) (g : GS) (l1 : Int) (l2 : Int) (r : (Int × GS)) (h : m_half N g l1 l2 = some r) : Con yX10_half cX10_half 4 (some .int) 3 60 Km (fun b => [.ref (b + 0), vI l1, vI l2]) g (fun _ => some (vI r.1)) r.2 := by
  refine Con.of RX10 (by decide) rfl (fun b => Nat.le_of_ble_eq_true rfl) (fun x sz hX => ?_)
  have X := hX.1
  have LL34 : ∀ (g : GS) (l1 : Int) (l2 : Int) (n : Nat) (s : (Int)) (e : (Int × GS)), loopN (fun s => m_half_b34 N g l1 l2 s) n s = some e → (e = r) → V x 4 Km 0 0 sz g 34 [(0, .ref (xb x + 0)), (1, vI l1), (2, vI l2), (3, vI s)] [] := by
    intro g l1 l2 n s e
    refine loop_walk (P := fun s => V x 4 Km 0 0 sz g 34 [(0, .ref (xb x + 0)), (1, vI l1), (2, vI l2), (3, vI s)] []) (E := fun e => e = r) ?_ n s e
    clear e s n
    rintro l3 q34 h hc34 he34
    replace h : m_half_b34 N g l1 l2 l3 = some q34 := h
    unfold m_half_b34 at h
    show V x 4 Km 0 0 sz g 34 [(0, .ref (xb x + 0)), (1, vI l1), (2, vI l2), (3, vI l3)] []
    refine V_iload_n X dX10_half_34 3 rfl ?_
    refine V_bipush X dX10_half_35 (by decide) ?_
    refine V_icmp_gt (tgt := 70) X dX10_half_37 (by decide) h (fun h => ?_) (fun h => ?_)
    · obtain ⟨e1, h, e1q⟩ := outR_some h
      replace h := h.trans (congrArg some (he34 _ e1q))
      refine V_iconst X dX10_half_70 ?_
      have hr := Option.some.inj h
      subst hr
      exact V_end_i hX rfl dX10_half_71
    · refine V_ldc2 X q2118 (n := 2) (by decide) dX10_half_40 ?_
      refine V_aload_n X dX10_half_43 0 rfl ?_
      refine V_iload_n X dX10_half_44 1 rfl ?_
      refine V_iload_n X dX10_half_45 3 rfl ?_
      refine V_iload_n X dX10_half_46 2 rfl ?_
      obtain ⟨c47, hc47, h⟩ := bind_some_eq h
      refine V_callV (As := [vI l1, vI l3, vI l2]) (rest := [vL 2]) (s1 := [vL c47, vL 2]) (o := 0) X (con_m_stuck N g l1 l3 l2 c47 hc47) gwX10_stuck hdX10_stuck (by decide) rfl (by decide) rfl rfl rfl (Nat.le_of_ble_eq_true rfl) ⟨Nat.zero_le _, Nat.zero_le _⟩ dX10_half_47 rfl rfl ?_
      refine V_lmul X dX10_half_50 ?_
      refine V_ldc2 X q2099 (n := 16) (by decide) dX10_half_51 ?_
      refine V_iload_n X dX10_half_54 3 rfl ?_
      obtain ⟨c55, hc55, h⟩ := bind_some_eq h
      refine V_callS (As := [vL 16, vI l3]) (rest := [vL (2 * c47)]) (s1 := [vL c55, vL (2 * c47)]) X (con_m_power N g 16 l3 c55 hc55) gwX10_power hdX10_power (by decide) rfl rfl (Nat.le_of_ble_eq_true rfl) ⟨Nat.zero_le _, Nat.zero_le _⟩ dX10_half_55 rfl rfl ?_
      refine V_lcmp X dX10_half_58 ?_
      refine V_if_gt (tgt := 64) X dX10_half_59 (by decide) h (fun h => ?_) (fun h => ?_)
      · refine V_iinc X dX10_half_64 3 rfl (by decide) (L' := [(3, vI (l3 + 1)), (0, .ref (xb x + 0)), (1, vI l1), (2, vI l2)]) rfl ?_
        refine V_goto (tgt := 34) X dX10_half_67 (by decide) ?_
        exact V_sub [1, 2, 3, 0] rfl (hc34 _ (Option.some.inj h).symm)
      · obtain ⟨e2, h, e2q⟩ := outR_some h
        replace h := h.trans (congrArg some (he34 _ e2q))
        refine V_iload_n X dX10_half_62 3 rfl ?_
        have hr := Option.some.inj h
        subst hr
        exact V_end_i hX rfl dX10_half_63
  unfold m_half at h
  show V x 4 Km 0 0 sz g 0 [(0, .ref (xb x + 0)), (1, vI l1), (2, vI l2)] []
  refine V_aload_n X dX10_half_0 0 rfl ?_
  refine V_iconst X dX10_half_1 ?_
  refine putX10 X (o := 0) (j := 0) (a := 0) rfl (by decide) rfl rfl rfl q1548 dX10_half_2 ?_
  refine V_aload_n X dX10_half_5 0 rfl ?_
  refine V_iload_n X dX10_half_6 1 rfl ?_
  refine V_iconst X dX10_half_7 ?_
  obtain ⟨c8, hc8, h⟩ := bind_some_eq h
  refine V_callV (As := [vI l1, vI 1]) (rest := []) (s1 := [vI c8.1]) (o := 0) X (con_m_isNut (sI g 900 0 0) l1 1 c8 hc8) gwX10_isNut hdX10_isNut (by decide) rfl (by decide) rfl rfl rfl (Nat.le_of_ble_eq_true rfl) ⟨Nat.zero_le _, Nat.zero_le _⟩ dX10_half_8 rfl rfl ?_
  refine V_if_eq (tgt := 30) X dX10_half_11 (by decide) h (fun h => ?_) (fun h => ?_)
  · refine V_iconst X dX10_half_30 ?_
    have hr := Option.some.inj h
    subst hr
    exact V_end_i hX rfl dX10_half_31
  · refine V_aload_n X dX10_half_14 0 rfl ?_
    refine V_iload_n X dX10_half_15 2 rfl ?_
    refine V_iconst X dX10_half_16 ?_
    refine V_bipush X dX10_half_17 (by decide) ?_
    obtain ⟨c19, hc19, h⟩ := bind_some_eq h
    refine V_callS (As := [vI l2, vI 0, vI 18]) (rest := [.ref (xb x + 0)]) (s1 := [vI c19, .ref (xb x + 0)]) X (con_m_within c8.2 l2 0 18 c19 hc19) gwX10_within hdX10_within (by decide) rfl rfl (Nat.le_of_ble_eq_true rfl) ⟨Nat.zero_le _, Nat.zero_le _⟩ dX10_half_19 rfl rfl ?_
    refine V_iconst X dX10_half_22 ?_
    refine V_iconst X dX10_half_23 ?_
    obtain ⟨c24, hc24, h⟩ := bind_some_eq h
    refine V_callV (As := [vI c19, vI 2, vI 1]) (rest := []) (s1 := [vI c24.1]) (o := 0) X (con_m_may c8.2 c19 2 1 c24 hc24) gwX10_may hdX10_may (by decide) rfl (by decide) rfl rfl rfl (Nat.le_of_ble_eq_true rfl) ⟨Nat.zero_le _, Nat.zero_le _⟩ dX10_half_24 rfl rfl ?_
    refine V_if_ne (tgt := 32) X dX10_half_27 (by decide) h (fun h => ?_) (fun h => ?_)
    · refine V_iconst X dX10_half_32 ?_
      refine V_istore_n X dX10_half_33 (by decide) (L' := [(3, vI 1), (0, .ref (xb x + 0)), (1, vI l1), (2, vI l2)]) rfl ?_
      exact V_sub [1, 2, 3, 0] rfl (LL34 c24.2 l1 l2 N 1 _ h rfl)
    · refine V_iconst X dX10_half_30 ?_
      have hr := Option.some.inj h
      subst hr
      exact V_end_i hX rfl dX10_half_31
set_option maxHeartbeats 4000000 in
theorem con_m_easiest (N : Nat) (g : GS) (l1 : Int) (r : (Int × GS)) (h : m_easiest N g l1 = some r) : Con yX10_easiest cX10_easiest 4 (some .int) 2 35 Km (fun b => [.ref (b + 0), vI l1]) g (fun _ => some (vI r.1)) r.2 := by
  refine Con.of RX10 (by decide) rfl (fun b => Nat.le_of_ble_eq_true rfl) (fun x sz hX => ?_)
  have X := hX.1
  have LL27 : ∀ (g : GS) (l1 : Int) (n : Nat) (s : (Int × Int)) (e : (Int × GS)), loopN (fun s => m_easiest_b27 N g l1 s.1 s.2) n s = some e → (e = r) → V x 4 Km 0 0 sz g 27 [(0, .ref (xb x + 0)), (1, vI l1), (2, vI s.1), (3, vI s.2)] [] := by
    intro g l1 n s e
    refine loop_walk (P := fun s => V x 4 Km 0 0 sz g 27 [(0, .ref (xb x + 0)), (1, vI l1), (2, vI s.1), (3, vI s.2)] []) (E := fun e => e = r) ?_ n s e
    clear e s n
    rintro ⟨l2, l3⟩ q27 h hc27 he27
    replace h : m_easiest_b27 N g l1 l2 l3 = some q27 := h
    have J55 : ∀ (l3 : Int), m_easiest_j55 N g l1 l3 = some q27 → V x 4 Km 0 0 sz g 55 [(0, .ref (xb x + 0)), (1, vI l1), (3, vI l3)] [] := by
      intro l3 h
      unfold m_easiest_j55 at h
      refine V_iload_n X dX10_easiest_55 2 rfl ?_
      refine V_istore_n X dX10_easiest_56 (by decide) (L' := [(2, vI l3), (0, .ref (xb x + 0)), (1, vI l1), (3, vI l3)]) rfl ?_
      refine V_iinc X dX10_easiest_57 3 rfl (by decide) (L' := [(3, vI (l3 + 1)), (2, vI l3), (0, .ref (xb x + 0)), (1, vI l1)]) rfl ?_
      refine V_goto (tgt := 27) X dX10_easiest_60 (by decide) ?_
      exact V_sub [2, 3, 1, 0] rfl (hc27 _ (Option.some.inj h).symm)
    unfold m_easiest_b27 at h
    show V x 4 Km 0 0 sz g 27 [(0, .ref (xb x + 0)), (1, vI l1), (2, vI l2), (3, vI l3)] []
    refine V_iload_n X dX10_easiest_27 3 rfl ?_
    refine V_aload_n X dX10_easiest_28 0 rfl ?_
    refine getX10 X (o := 0) (j := 35) rfl (by decide) q1583 (fv_0 rfl) dX10_easiest_29 ?_
    refine V_icmp_ge (tgt := 63) X dX10_easiest_32 (by decide) h (fun h => ?_) (fun h => ?_)
    · obtain ⟨e1, h, e1q⟩ := outR_some h
      replace h := h.trans (congrArg some (he27 _ e1q))
      refine V_iload_n X dX10_easiest_63 2 rfl ?_
      have hr := Option.some.inj h
      subst hr
      exact V_end_i hX rfl dX10_easiest_64
    · refine V_iload_n X dX10_easiest_35 2 rfl ?_
      refine V_iconst X dX10_easiest_36 ?_
      refine V_icmp_eq (tgt := 55) X dX10_easiest_37 (by decide) h (fun h => ?_) (fun h => ?_)
      · exact V_sub [0, 1, 3] rfl (J55 _ h)
      · refine V_aload_n X dX10_easiest_40 0 rfl ?_
        refine V_iload_n X dX10_easiest_41 3 rfl ?_
        refine V_iload_n X dX10_easiest_42 1 rfl ?_
        obtain ⟨c43, hc43, h⟩ := bind_some_eq h
        refine V_callV (As := [vI l3, vI l1]) (rest := []) (s1 := [vI c43]) (o := 0) X (con_m_easeOf g l3 l1 c43 hc43) gwX10_easeOf hdX10_easeOf (by decide) rfl (by decide) rfl rfl rfl (Nat.le_of_ble_eq_true rfl) ⟨Nat.zero_le _, Nat.zero_le _⟩ dX10_easiest_43 rfl rfl ?_
        refine V_aload_n X dX10_easiest_46 0 rfl ?_
        refine V_iload_n X dX10_easiest_47 2 rfl ?_
        refine V_iload_n X dX10_easiest_48 1 rfl ?_
        obtain ⟨c49, hc49, h⟩ := bind_some_eq h
        refine V_callV (As := [vI l2, vI l1]) (rest := [vI c43]) (s1 := [vI c49, vI c43]) (o := 0) X (con_m_easeOf g l2 l1 c49 hc49) gwX10_easeOf hdX10_easeOf (by decide) rfl (by decide) rfl rfl rfl (Nat.le_of_ble_eq_true rfl) ⟨Nat.zero_le _, Nat.zero_le _⟩ dX10_easiest_49 rfl rfl ?_
        refine V_icmp_le (tgt := 57) X dX10_easiest_52 (by decide) h (fun h => ?_) (fun h => ?_)
        · refine V_iinc X dX10_easiest_57 3 rfl (by decide) (L' := [(3, vI (l3 + 1)), (0, .ref (xb x + 0)), (1, vI l1), (2, vI l2)]) rfl ?_
          refine V_goto (tgt := 27) X dX10_easiest_60 (by decide) ?_
          exact V_sub [1, 2, 3, 0] rfl (hc27 _ (Option.some.inj h).symm)
        · exact V_sub [0, 1, 3] rfl (J55 _ h)
  unfold m_easiest at h
  show V x 4 Km 0 0 sz g 0 [(0, .ref (xb x + 0)), (1, vI l1)] []
  refine V_aload_n X dX10_easiest_0 0 rfl ?_
  refine V_iconst X dX10_easiest_1 ?_
  refine putX10 X (o := 0) (j := 0) (a := 0) rfl (by decide) rfl rfl rfl q1548 dX10_easiest_2 ?_
  refine V_aload_n X dX10_easiest_5 0 rfl ?_
  refine V_iload_n X dX10_easiest_6 1 rfl ?_
  refine V_iconst X dX10_easiest_7 ?_
  refine V_bipush X dX10_easiest_8 (by decide) ?_
  obtain ⟨c10, hc10, h⟩ := bind_some_eq h
  refine V_callS (As := [vI l1, vI 0, vI 18]) (rest := [.ref (xb x + 0)]) (s1 := [vI c10, .ref (xb x + 0)]) X (con_m_within (sI g 900 0 0) l1 0 18 c10 hc10) gwX10_within hdX10_within (by decide) rfl rfl (Nat.le_of_ble_eq_true rfl) ⟨Nat.zero_le _, Nat.zero_le _⟩ dX10_easiest_10 rfl rfl ?_
  refine V_iconst X dX10_easiest_13 ?_
  refine V_iconst X dX10_easiest_14 ?_
  obtain ⟨c15, hc15, h⟩ := bind_some_eq h
  refine V_callV (As := [vI c10, vI 1, vI 1]) (rest := []) (s1 := [vI c15.1]) (o := 0) X (con_m_may (sI g 900 0 0) c10 1 1 c15 hc15) gwX10_may hdX10_may (by decide) rfl (by decide) rfl rfl rfl (Nat.le_of_ble_eq_true rfl) ⟨Nat.zero_le _, Nat.zero_le _⟩ dX10_easiest_15 rfl rfl ?_
  refine V_if_ne (tgt := 23) X dX10_easiest_18 (by decide) h (fun h => ?_) (fun h => ?_)
  · refine V_iconst X dX10_easiest_23 ?_
    refine V_istore_n X dX10_easiest_24 (by decide) (L' := [(2, vI (-1)), (0, .ref (xb x + 0)), (1, vI l1)]) rfl ?_
    refine V_iconst X dX10_easiest_25 ?_
    refine V_istore_n X dX10_easiest_26 (by decide) (L' := [(3, vI 0), (2, vI (-1)), (0, .ref (xb x + 0)), (1, vI l1)]) rfl ?_
    exact V_sub [2, 3, 1, 0] rfl (LL27 c15.2 l1 N ((-1), 0) _ h rfl)
  · refine V_iconst X dX10_easiest_21 ?_
    have hr := Option.some.inj h
    subst hr
    exact V_end_i hX rfl dX10_easiest_22
set_option maxHeartbeats 4000000 in
theorem con_m_meanOf (N : Nat) (g : GS) (l1 : Int) (l2 : Int) (l3 : Int) (r : Int) (h : m_meanOf N g l1 l2 l3 = some r) : Con yX10_meanOf cX10_meanOf 10 (some .long) 1 12 Km (fun b => [.ref (b + 0), vI l1, vI l2, vI l3]) g (fun _ => some (vL r)) g := by
  refine Con.of RX10 (by decide) rfl (fun b => Nat.le_of_ble_eq_true rfl) (fun x sz hX => ?_)
  have X := hX.1
  have LL17 : ∀ (l1 : Int) (l2 : Int) (l3 : Int) (l4 : Int) (n : Nat) (s : (Int × Int × Int)) (e : (Int × Int)), loopN (fun s => m_meanOf_b17 N g l1 l2 l3 l4 s.1 s.2.1 s.2.2) n s = some e → V x 10 Km 0 0 sz g 61 [(1, vI l1), (2, vI l2), (5, vL e.1), (7, vL e.2)] [] → V x 10 Km 0 0 sz g 17 [(1, vI l1), (2, vI l2), (3, vI l3), (4, vI l4), (5, vL s.1), (7, vL s.2.1), (9, vI s.2.2)] [] := by
    intro l1 l2 l3 l4 n s e
    refine loop_walk (P := fun s => V x 10 Km 0 0 sz g 17 [(1, vI l1), (2, vI l2), (3, vI l3), (4, vI l4), (5, vL s.1), (7, vL s.2.1), (9, vI s.2.2)] []) (E := fun e => V x 10 Km 0 0 sz g 61 [(1, vI l1), (2, vI l2), (5, vL e.1), (7, vL e.2)] []) ?_ n s e
    clear e s n
    rintro ⟨l5, l7, l9⟩ q17 h hc17 he17
    replace h : m_meanOf_b17 N g l1 l2 l3 l4 l5 l7 l9 = some q17 := h
    unfold m_meanOf_b17 at h
    show V x 10 Km 0 0 sz g 17 [(1, vI l1), (2, vI l2), (3, vI l3), (4, vI l4), (5, vL l5), (7, vL l7), (9, vI l9)] []
    refine V_iload X dX10_meanOf_17 6 rfl ?_
    refine V_iload_n X dX10_meanOf_19 0 rfl ?_
    refine V_icmp_gt (tgt := 61) X dX10_meanOf_20 (by decide) h (fun h => ?_) (fun h => ?_)
    · exact V_sub [0, 1, 4, 5] rfl (he17 _ (Option.some.inj h).symm)
    · refine V_ldc2 X q2099 (n := 16) (by decide) dX10_meanOf_23 ?_
      refine V_lload X dX10_meanOf_26 4 rfl ?_
      refine V_lmul X dX10_meanOf_28 ?_
      refine V_lload X dX10_meanOf_29 5 rfl ?_
      refine V_iload X dX10_meanOf_31 3 rfl ?_
      refine V_i2l X dX10_meanOf_33 ?_
      refine V_lmul X dX10_meanOf_34 ?_
      refine V_iload X dX10_meanOf_35 6 rfl ?_
      refine V_iload_n X dX10_meanOf_37 2 rfl ?_
      refine V_iadd X dX10_meanOf_38 ?_
      refine V_i2l X dX10_meanOf_39 ?_
      refine V_lmul X dX10_meanOf_40 ?_
      refine V_ladd X dX10_meanOf_41 ?_
      refine V_lstore X dX10_meanOf_42 (by decide) (L' := [(5, vL ((16 * l5) + ((l7 * (w32 l4)) * (w32 (l9 + l3))))), (1, vI l1), (2, vI l2), (3, vI l3), (4, vI l4), (7, vL l7), (9, vI l9)]) rfl ?_
      refine V_lload X dX10_meanOf_44 5 rfl ?_
      refine V_bipush X dX10_meanOf_46 (by decide) ?_
      refine V_iload X dX10_meanOf_48 4 rfl ?_
      refine V_isub X dX10_meanOf_50 ?_
      refine V_i2l X dX10_meanOf_51 ?_
      refine V_lmul X dX10_meanOf_52 ?_
      refine V_lstore X dX10_meanOf_53 (by decide) (L' := [(7, vL (l7 * (w32 (16 - l4)))), (5, vL ((16 * l5) + ((l7 * (w32 l4)) * (w32 (l9 + l3))))), (1, vI l1), (2, vI l2), (3, vI l3), (4, vI l4), (9, vI l9)]) rfl ?_
      refine V_iinc X dX10_meanOf_55 6 rfl (by decide) (L' := [(9, vI (l9 + 1)), (7, vL (l7 * (w32 (16 - l4)))), (5, vL ((16 * l5) + ((l7 * (w32 l4)) * (w32 (l9 + l3))))), (1, vI l1), (2, vI l2), (3, vI l3), (4, vI l4)]) rfl ?_
      refine V_goto (tgt := 17) X dX10_meanOf_58 (by decide) ?_
      exact V_sub [3, 4, 5, 6, 2, 1, 0] rfl (hc17 _ (Option.some.inj h).symm)
  unfold m_meanOf at h
  show V x 10 Km 0 0 sz g 0 [(0, .ref (xb x + 0)), (1, vI l1), (2, vI l2), (3, vI l3)] []
  refine V_aload_n X dX10_meanOf_0 0 rfl ?_
  refine getX10 X (o := 0) (j := 25) rfl (by decide) q1573 (fv_1 (i := 18) rfl rfl) dX10_meanOf_1 ?_
  refine V_iconst X dX10_meanOf_4 ?_
  refine V_iald X (o := 18) (n := 5) rfl (by decide) dX10_meanOf_5 h (fun v5 h => ?_)
  refine V_istore X dX10_meanOf_6 (by decide) (L' := [(4, vI v5), (0, .ref (xb x + 0)), (1, vI l1), (2, vI l2), (3, vI l3)]) rfl ?_
  refine V_lconst X (a := 0) dX10_meanOf_8 (by decide) ?_
  refine V_lstore X dX10_meanOf_9 (by decide) (L' := [(5, vL 0), (4, vI v5), (0, .ref (xb x + 0)), (1, vI l1), (2, vI l2), (3, vI l3)]) rfl ?_
  refine V_lconst X (a := 1) dX10_meanOf_11 (by decide) ?_
  refine V_lstore X dX10_meanOf_12 (by decide) (L' := [(7, vL 1), (5, vL 0), (4, vI v5), (0, .ref (xb x + 0)), (1, vI l1), (2, vI l2), (3, vI l3)]) rfl ?_
  refine V_iconst X dX10_meanOf_14 ?_
  refine V_istore X dX10_meanOf_15 (by decide) (L' := [(9, vI 1), (7, vL 1), (5, vL 0), (4, vI v5), (0, .ref (xb x + 0)), (1, vI l1), (2, vI l2), (3, vI l3)]) rfl ?_
  obtain ⟨t1, t1q, h⟩ := bind_some_eq h
  refine V_sub [5, 6, 7, 3, 2, 1, 0] rfl (LL17 l1 l2 l3 v5 N (0, 1, 1) _ t1q ?_)
  refine V_lload X dX10_meanOf_61 2 rfl ?_
  refine V_lload X dX10_meanOf_63 3 rfl ?_
  refine V_iload_n X dX10_meanOf_65 0 rfl ?_
  refine V_iload_n X dX10_meanOf_66 1 rfl ?_
  refine V_iadd X dX10_meanOf_67 ?_
  refine V_i2l X dX10_meanOf_68 ?_
  refine V_lmul X dX10_meanOf_69 ?_
  refine V_ladd X dX10_meanOf_70 ?_
  have hr := Option.some.inj h
  subst hr
  exact V_end_l hX rfl dX10_meanOf_71
set_option maxHeartbeats 4000000 in
theorem con_m_waits (N : Nat) (g : GS) (l1 : Int) (l2 : Int) (l3 : Int) (l4 : Int) (r : (Int × GS)) (h : m_waits N g l1 l2 l3 l4 = some r) : Con yX10_waits cX10_waits 5 (some .long) 2 42 Km (fun b => [.ref (b + 0), vI l1, vI l2, vI l3, vI l4]) g (fun _ => some (vL r.1)) r.2 := by
  refine Con.of RX10 (by decide) rfl (fun b => Nat.le_of_ble_eq_true rfl) (fun x sz hX => ?_)
  have X := hX.1
  have J45 : ∀ (g : GS) (l1 : Int) (l2 : Int) (l3 : Int) (l4 : Int) (s0 : Int), m_waits_j45 N g l1 l2 l3 l4 s0 = some r → V x 5 Km 0 0 sz g 45 [(0, .ref (xb x + 0)), (1, vI l1), (2, vI l2), (3, vI l3), (4, vI l4)] [vI s0, .ref (xb x + 0)] := by
    intro g l1 l2 l3 l4 s0 h
    unfold m_waits_j45 at h
    refine V_iconst X dX10_waits_45 ?_
    refine V_iconst X dX10_waits_46 ?_
    obtain ⟨c47, hc47, h⟩ := bind_some_eq h
    refine V_callV (As := [vI s0, vI 1, vI 1]) (rest := []) (s1 := [vI c47.1]) (o := 0) X (con_m_may g s0 1 1 c47 hc47) gwX10_may hdX10_may (by decide) rfl (by decide) rfl rfl rfl (Nat.le_of_ble_eq_true rfl) ⟨Nat.zero_le _, Nat.zero_le _⟩ dX10_waits_47 rfl rfl ?_
    refine V_if_ne (tgt := 55) X dX10_waits_50 (by decide) h (fun h => ?_) (fun h => ?_)
    · refine V_aload_n X dX10_waits_55 0 rfl ?_
      refine V_iload_n X dX10_waits_56 1 rfl ?_
      refine V_iload_n X dX10_waits_57 2 rfl ?_
      refine V_iload_n X dX10_waits_58 3 rfl ?_
      obtain ⟨c59, hc59, h⟩ := bind_some_eq h
      refine V_callV (As := [vI l1, vI l2, vI l3]) (rest := []) (s1 := [vL c59]) (o := 0) X (con_m_meanOf N c47.2 l1 l2 l3 c59 hc59) gwX10_meanOf hdX10_meanOf (by decide) rfl (by decide) rfl rfl rfl (Nat.le_of_ble_eq_true rfl) ⟨Nat.zero_le _, Nat.zero_le _⟩ dX10_waits_59 rfl rfl ?_
      refine V_ldc2 X q2099 (n := 16) (by decide) dX10_waits_62 ?_
      refine V_iload_n X dX10_waits_65 1 rfl ?_
      obtain ⟨c66, hc66, h⟩ := bind_some_eq h
      refine V_callS (As := [vL 16, vI l1]) (rest := [vL c59]) (s1 := [vL c66, vL c59]) X (con_m_power N c47.2 16 l1 c66 hc66) gwX10_power hdX10_power (by decide) rfl rfl (Nat.le_of_ble_eq_true rfl) ⟨Nat.zero_le _, Nat.zero_le _⟩ dX10_waits_66 rfl rfl ?_
      refine V_iload X dX10_waits_69 4 rfl ?_
      obtain ⟨c71, hc71, h⟩ := bind_some_eq h
      refine V_callS (As := [vL c59, vL c66, vI l4]) (rest := []) (s1 := [vL c71]) X (con_m_least N c47.2 c59 c66 l4 c71 hc71) gwX10_least hdX10_least (by decide) rfl rfl (Nat.le_of_ble_eq_true rfl) ⟨Nat.zero_le _, Nat.zero_le _⟩ dX10_waits_71 rfl rfl ?_
      have hr := Option.some.inj h
      subst hr
      exact V_end_l hX rfl dX10_waits_74
    · refine V_lconst X (a := 0) dX10_waits_53 (by decide) ?_
      have hr := Option.some.inj h
      subst hr
      exact V_end_l hX rfl dX10_waits_54
  have J44 : ∀ (g : GS) (l1 : Int) (l2 : Int) (l3 : Int) (l4 : Int), m_waits_j44 N g l1 l2 l3 l4 = some r → V x 5 Km 0 0 sz g 44 [(0, .ref (xb x + 0)), (1, vI l1), (2, vI l2), (3, vI l3), (4, vI l4)] [.ref (xb x + 0)] := by
    intro g l1 l2 l3 l4 h
    unfold m_waits_j44 at h
    refine V_iconst X dX10_waits_44 ?_
    exact V_sub [0, 1, 2, 3, 4] rfl (J45 _ _ _ _ _ _ h)
  unfold m_waits at h
  show V x 5 Km 0 0 sz g 0 [(0, .ref (xb x + 0)), (1, vI l1), (2, vI l2), (3, vI l3), (4, vI l4)] []
  refine V_aload_n X dX10_waits_0 0 rfl ?_
  refine V_iconst X dX10_waits_1 ?_
  refine putX10 X (o := 0) (j := 0) (a := 0) rfl (by decide) rfl rfl rfl q1548 dX10_waits_2 ?_
  refine V_aload_n X dX10_waits_5 0 rfl ?_
  refine V_iload_n X dX10_waits_6 1 rfl ?_
  refine V_iconst X dX10_waits_7 ?_
  refine V_bipush X dX10_waits_8 (by decide) ?_
  obtain ⟨c10, hc10, h⟩ := bind_some_eq h
  refine V_callS (As := [vI l1, vI 0, vI 8]) (rest := [.ref (xb x + 0)]) (s1 := [vI c10, .ref (xb x + 0)]) X (con_m_within (sI g 900 0 0) l1 0 8 c10 hc10) gwX10_within hdX10_within (by decide) rfl rfl (Nat.le_of_ble_eq_true rfl) ⟨Nat.zero_le _, Nat.zero_le _⟩ dX10_waits_10 rfl rfl ?_
  refine V_if_eq (tgt := 44) X dX10_waits_13 (by decide) h (fun h => ?_) (fun h => ?_)
  · exact V_sub [0, 1, 2, 3, 4] rfl (J44 _ _ _ _ _ h)
  · refine V_iload_n X dX10_waits_16 2 rfl ?_
    obtain ⟨c17, hc17, h⟩ := bind_some_eq h
    refine V_callS (As := [vI l2]) (rest := [.ref (xb x + 0)]) (s1 := [vI c17, .ref (xb x + 0)]) X (con_m_isMinute (sI g 900 0 0) l2 c17 hc17) gwX10_isMinute hdX10_isMinute (by decide) rfl rfl (Nat.le_of_ble_eq_true rfl) ⟨Nat.zero_le _, Nat.zero_le _⟩ dX10_waits_17 rfl rfl ?_
    refine V_if_eq (tgt := 44) X dX10_waits_20 (by decide) h (fun h => ?_) (fun h => ?_)
    · exact V_sub [0, 1, 2, 3, 4] rfl (J44 _ _ _ _ _ h)
    · refine V_iload_n X dX10_waits_23 3 rfl ?_
      obtain ⟨c24, hc24, h⟩ := bind_some_eq h
      refine V_callS (As := [vI l3]) (rest := [.ref (xb x + 0)]) (s1 := [vI c24, .ref (xb x + 0)]) X (con_m_isMinute (sI g 900 0 0) l3 c24 hc24) gwX10_isMinute hdX10_isMinute (by decide) rfl rfl (Nat.le_of_ble_eq_true rfl) ⟨Nat.zero_le _, Nat.zero_le _⟩ dX10_waits_24 rfl rfl ?_
      refine V_if_eq (tgt := 44) X dX10_waits_27 (by decide) h (fun h => ?_) (fun h => ?_)
      · exact V_sub [0, 1, 2, 3, 4] rfl (J44 _ _ _ _ _ h)
      · refine V_iload X dX10_waits_30 4 rfl ?_
        refine V_iconst X dX10_waits_32 ?_
        refine V_iconst X dX10_waits_33 ?_
        obtain ⟨c34, hc34, h⟩ := bind_some_eq h
        refine V_callS (As := [vI l4, vI 0, vI 1]) (rest := [.ref (xb x + 0)]) (s1 := [vI c34, .ref (xb x + 0)]) X (con_m_within (sI g 900 0 0) l4 0 1 c34 hc34) gwX10_within hdX10_within (by decide) rfl rfl (Nat.le_of_ble_eq_true rfl) ⟨Nat.zero_le _, Nat.zero_le _⟩ dX10_waits_34 rfl rfl ?_
        refine V_if_eq (tgt := 44) X dX10_waits_37 (by decide) h (fun h => ?_) (fun h => ?_)
        · exact V_sub [0, 1, 2, 3, 4] rfl (J44 _ _ _ _ _ h)
        · refine V_iconst X dX10_waits_40 ?_
          refine V_goto (tgt := 45) X dX10_waits_41 (by decide) ?_
          exact V_sub [0, 1, 2, 3, 4] rfl (J45 _ _ _ _ _ _ h)
set_option maxHeartbeats 4000000 in
theorem con_m_await (N : Nat) (g : GS) (l1 : Int) (l2 : Int) (r : (Int × GS)) (h : m_await N g l1 l2 = some r) : Con yX10_await cX10_await 5 (some .int) 2 41 Km (fun b => [.ref (b + 0), vI l1, vI l2]) g (fun _ => some (vI r.1)) r.2 := by
  refine Con.of RX10 (by decide) rfl (fun b => Nat.le_of_ble_eq_true rfl) (fun x sz hX => ?_)
  have X := hX.1
  have LL40 : ∀ (g : GS) (l1 : Int) (l2 : Int) (n : Nat) (s : (Int × Int)) (e : (Int × GS)), loopN (fun s => m_await_b40 N g l1 l2 s.1 s.2) n s = some e → (e = r) → V x 5 Km 0 0 sz g 40 [(0, .ref (xb x + 0)), (1, vI l1), (2, vI l2), (3, vI s.1), (4, vI s.2)] [] := by
    intro g l1 l2 n s e
    refine loop_walk (P := fun s => V x 5 Km 0 0 sz g 40 [(0, .ref (xb x + 0)), (1, vI l1), (2, vI l2), (3, vI s.1), (4, vI s.2)] []) (E := fun e => e = r) ?_ n s e
    clear e s n
    rintro ⟨l3, l4⟩ q40 h hc40 he40
    replace h : m_await_b40 N g l1 l2 l3 l4 = some q40 := h
    unfold m_await_b40 at h
    show V x 5 Km 0 0 sz g 40 [(0, .ref (xb x + 0)), (1, vI l1), (2, vI l2), (3, vI l3), (4, vI l4)] []
    refine V_iload X dX10_await_40 4 rfl ?_
    refine V_bipush X dX10_await_42 (by decide) ?_
    refine V_icmp_gt (tgt := 86) X dX10_await_44 (by decide) h (fun h => ?_) (fun h => ?_)
    · obtain ⟨e1, h, e1q⟩ := outR_some h
      replace h := h.trans (congrArg some (he40 _ e1q))
      refine V_iload_n X dX10_await_86 3 rfl ?_
      have hr := Option.some.inj h
      subst hr
      exact V_end_i hX rfl dX10_await_87
    · refine V_aload_n X dX10_await_47 0 rfl ?_
      refine V_iload X dX10_await_48 4 rfl ?_
      refine V_iload_n X dX10_await_50 1 rfl ?_
      refine V_iload_n X dX10_await_51 2 rfl ?_
      obtain ⟨c52, hc52, h⟩ := bind_some_eq h
      refine V_callV (As := [vI l4, vI l1, vI l2]) (rest := []) (s1 := [vL c52]) (o := 0) X (con_m_meanOf N g l4 l1 l2 c52 hc52) gwX10_meanOf hdX10_meanOf (by decide) rfl (by decide) rfl rfl rfl (Nat.le_of_ble_eq_true rfl) ⟨Nat.zero_le _, Nat.zero_le _⟩ dX10_await_52 rfl rfl ?_
      refine V_aload_n X dX10_await_55 0 rfl ?_
      refine V_iload_n X dX10_await_56 3 rfl ?_
      refine V_iload_n X dX10_await_57 1 rfl ?_
      refine V_iload_n X dX10_await_58 2 rfl ?_
      obtain ⟨c59, hc59, h⟩ := bind_some_eq h
      refine V_callV (As := [vI l3, vI l1, vI l2]) (rest := [vL c52]) (s1 := [vL c59, vL c52]) (o := 0) X (con_m_meanOf N g l3 l1 l2 c59 hc59) gwX10_meanOf hdX10_meanOf (by decide) rfl (by decide) rfl rfl rfl (Nat.le_of_ble_eq_true rfl) ⟨Nat.zero_le _, Nat.zero_le _⟩ dX10_await_59 rfl rfl ?_
      refine V_ldc2 X q2099 (n := 16) (by decide) dX10_await_62 ?_
      refine V_iload X dX10_await_65 4 rfl ?_
      refine V_iload_n X dX10_await_67 3 rfl ?_
      refine V_isub X dX10_await_68 ?_
      obtain ⟨c69, hc69, h⟩ := bind_some_eq h
      refine V_callS (As := [vL 16, vI (l4 - l3)]) (rest := [vL c59, vL c52]) (s1 := [vL c69, vL c59, vL c52]) X (con_m_power N g 16 (l4 - l3) c69 hc69) gwX10_power hdX10_power (by decide) rfl rfl (Nat.le_of_ble_eq_true rfl) ⟨Nat.zero_le _, Nat.zero_le _⟩ dX10_await_69 rfl rfl ?_
      refine V_lmul X dX10_await_72 ?_
      refine V_lcmp X dX10_await_73 ?_
      refine V_if_ge (tgt := 80) X dX10_await_74 (by decide) h (fun h => ?_) (fun h => ?_)
      · refine V_iinc X dX10_await_80 4 rfl (by decide) (L' := [(4, vI (l4 + 1)), (0, .ref (xb x + 0)), (1, vI l1), (2, vI l2), (3, vI l3)]) rfl ?_
        refine V_goto (tgt := 40) X dX10_await_83 (by decide) ?_
        exact V_sub [1, 2, 3, 4, 0] rfl (hc40 _ (Option.some.inj h).symm)
      · refine V_iload X dX10_await_77 4 rfl ?_
        refine V_istore_n X dX10_await_79 (by decide) (L' := [(3, vI l4), (0, .ref (xb x + 0)), (1, vI l1), (2, vI l2), (4, vI l4)]) rfl ?_
        refine V_iinc X dX10_await_80 4 rfl (by decide) (L' := [(4, vI (l4 + 1)), (3, vI l4), (0, .ref (xb x + 0)), (1, vI l1), (2, vI l2)]) rfl ?_
        refine V_goto (tgt := 40) X dX10_await_83 (by decide) ?_
        exact V_sub [2, 3, 4, 1, 0] rfl (hc40 _ (Option.some.inj h).symm)
  have J25 : ∀ (g : GS) (l1 : Int) (l2 : Int) (s0 : Int), m_await_j25 N g l1 l2 s0 = some r → V x 5 Km 0 0 sz g 25 [(0, .ref (xb x + 0)), (1, vI l1), (2, vI l2)] [vI s0, .ref (xb x + 0)] := by
    intro g l1 l2 s0 h
    unfold m_await_j25 at h
    refine V_iconst X dX10_await_25 ?_
    refine V_iconst X dX10_await_26 ?_
    obtain ⟨c27, hc27, h⟩ := bind_some_eq h
    refine V_callV (As := [vI s0, vI 1, vI 1]) (rest := []) (s1 := [vI c27.1]) (o := 0) X (con_m_may g s0 1 1 c27 hc27) gwX10_may hdX10_may (by decide) rfl (by decide) rfl rfl rfl (Nat.le_of_ble_eq_true rfl) ⟨Nat.zero_le _, Nat.zero_le _⟩ dX10_await_27 rfl rfl ?_
    refine V_if_ne (tgt := 35) X dX10_await_30 (by decide) h (fun h => ?_) (fun h => ?_)
    · refine V_iconst X dX10_await_35 ?_
      refine V_istore_n X dX10_await_36 (by decide) (L' := [(3, vI 0), (0, .ref (xb x + 0)), (1, vI l1), (2, vI l2)]) rfl ?_
      refine V_iconst X dX10_await_37 ?_
      refine V_istore X dX10_await_38 (by decide) (L' := [(4, vI 1), (3, vI 0), (0, .ref (xb x + 0)), (1, vI l1), (2, vI l2)]) rfl ?_
      exact V_sub [2, 3, 4, 1, 0] rfl (LL40 c27.2 l1 l2 N (0, 1) _ h rfl)
    · refine V_iconst X dX10_await_33 ?_
      have hr := Option.some.inj h
      subst hr
      exact V_end_i hX rfl dX10_await_34
  have J24 : ∀ (g : GS) (l1 : Int) (l2 : Int), m_await_j24 N g l1 l2 = some r → V x 5 Km 0 0 sz g 24 [(0, .ref (xb x + 0)), (1, vI l1), (2, vI l2)] [.ref (xb x + 0)] := by
    intro g l1 l2 h
    unfold m_await_j24 at h
    refine V_iconst X dX10_await_24 ?_
    exact V_sub [0, 1, 2] rfl (J25 _ _ _ _ h)
  unfold m_await at h
  show V x 5 Km 0 0 sz g 0 [(0, .ref (xb x + 0)), (1, vI l1), (2, vI l2)] []
  refine V_aload_n X dX10_await_0 0 rfl ?_
  refine V_iconst X dX10_await_1 ?_
  refine putX10 X (o := 0) (j := 0) (a := 0) rfl (by decide) rfl rfl rfl q1548 dX10_await_2 ?_
  refine V_aload_n X dX10_await_5 0 rfl ?_
  refine V_iload_n X dX10_await_6 1 rfl ?_
  obtain ⟨c7, hc7, h⟩ := bind_some_eq h
  refine V_callS (As := [vI l1]) (rest := [.ref (xb x + 0)]) (s1 := [vI c7, .ref (xb x + 0)]) X (con_m_isMinute (sI g 900 0 0) l1 c7 hc7) gwX10_isMinute hdX10_isMinute (by decide) rfl rfl (Nat.le_of_ble_eq_true rfl) ⟨Nat.zero_le _, Nat.zero_le _⟩ dX10_await_7 rfl rfl ?_
  refine V_if_eq (tgt := 24) X dX10_await_10 (by decide) h (fun h => ?_) (fun h => ?_)
  · exact V_sub [0, 1, 2] rfl (J24 _ _ _ h)
  · refine V_iload_n X dX10_await_13 2 rfl ?_
    obtain ⟨c14, hc14, h⟩ := bind_some_eq h
    refine V_callS (As := [vI l2]) (rest := [.ref (xb x + 0)]) (s1 := [vI c14, .ref (xb x + 0)]) X (con_m_isMinute (sI g 900 0 0) l2 c14 hc14) gwX10_isMinute hdX10_isMinute (by decide) rfl rfl (Nat.le_of_ble_eq_true rfl) ⟨Nat.zero_le _, Nat.zero_le _⟩ dX10_await_14 rfl rfl ?_
    refine V_if_eq (tgt := 24) X dX10_await_17 (by decide) h (fun h => ?_) (fun h => ?_)
    · exact V_sub [0, 1, 2] rfl (J24 _ _ _ h)
    · refine V_iconst X dX10_await_20 ?_
      refine V_goto (tgt := 25) X dX10_await_21 (by decide) ?_
      exact V_sub [0, 1, 2] rfl (J25 _ _ _ _ h)
set_option maxHeartbeats 4000000 in
theorem con_m_crookedBy (g : GS) (l1 : Int) (l2 : Int) (l3 : Int) (r : Int) (h : m_crookedBy g l1 l2 l3 = some r) : Con yX10_crookedBy cX10_crookedBy 6 (some .int) 1 12 Km (fun b => [.ref (b + 0), vI l1, vI l2, vI l3]) g (fun _ => some (vI r)) g := by
  refine Con.of RX10 (by decide) rfl (fun b => Nat.le_of_ble_eq_true rfl) (fun x sz hX => ?_)
  have X := hX.1
  have J34 : ∀ (l1 : Int) (s0 : Int), m_crookedBy_j34 g l1 s0 = some r → V x 6 Km 0 0 sz g 34 [(1, vI l1)] [vI s0] := by
    intro l1 s0 h
    unfold m_crookedBy_j34 at h
    refine V_istore X dX10_crookedBy_34 (by decide) (L' := [(5, vI s0), (1, vI l1)]) rfl ?_
    refine V_iload_n X dX10_crookedBy_36 1 rfl ?_
    refine V_iconst X dX10_crookedBy_37 ?_
    refine V_idivK X dX10_crookedBy_38 (by decide) ?_
    refine V_iload X dX10_crookedBy_39 0 rfl ?_
    refine V_icmp_le (tgt := 53) X dX10_crookedBy_41 (by decide) h (fun h => ?_) (fun h => ?_)
    · refine V_iconst X dX10_crookedBy_53 ?_
      have hr := Option.some.inj h
      subst hr
      exact V_end_i hX rfl dX10_crookedBy_54
    · refine V_iload_n X dX10_crookedBy_44 1 rfl ?_
      refine V_iconst X dX10_crookedBy_45 ?_
      refine V_idivK X dX10_crookedBy_46 (by decide) ?_
      refine V_iload X dX10_crookedBy_47 0 rfl ?_
      refine V_isub X dX10_crookedBy_49 ?_
      refine V_goto (tgt := 54) X dX10_crookedBy_50 (by decide) ?_
      have hr := Option.some.inj h
      subst hr
      exact V_end_i hX rfl dX10_crookedBy_54
  have J14 : ∀ (l1 : Int) (s0 : Int), m_crookedBy_j14 g l1 s0 = some r → V x 6 Km 0 0 sz g 14 [(1, vI l1)] [vI s0] := by
    intro l1 s0 h
    unfold m_crookedBy_j14 at h
    refine V_istore X dX10_crookedBy_14 (by decide) (L' := [(4, vI s0), (1, vI l1)]) rfl ?_
    refine V_iload X dX10_crookedBy_16 0 rfl ?_
    refine V_iload_n X dX10_crookedBy_18 1 rfl ?_
    refine V_iload X dX10_crookedBy_19 0 rfl ?_
    refine V_isub X dX10_crookedBy_21 ?_
    refine V_icmp_ge (tgt := 30) X dX10_crookedBy_22 (by decide) h (fun h => ?_) (fun h => ?_)
    · refine V_iload_n X dX10_crookedBy_30 1 rfl ?_
      refine V_iload X dX10_crookedBy_31 0 rfl ?_
      refine V_isub X dX10_crookedBy_33 ?_
      exact V_sub [1] rfl (J34 _ _ h)
    · refine V_iload X dX10_crookedBy_25 0 rfl ?_
      refine V_goto (tgt := 34) X dX10_crookedBy_27 (by decide) ?_
      exact V_sub [1] rfl (J34 _ _ h)
  unfold m_crookedBy at h
  show V x 6 Km 0 0 sz g 0 [(0, .ref (xb x + 0)), (1, vI l1), (2, vI l2), (3, vI l3)] []
  refine V_iload_n X dX10_crookedBy_0 2 rfl ?_
  refine V_iload_n X dX10_crookedBy_1 3 rfl ?_
  refine V_icmp_ge (tgt := 11) X dX10_crookedBy_2 (by decide) h (fun h => ?_) (fun h => ?_)
  · refine V_iload_n X dX10_crookedBy_11 2 rfl ?_
    refine V_iload_n X dX10_crookedBy_12 3 rfl ?_
    refine V_isub X dX10_crookedBy_13 ?_
    exact V_sub [1] rfl (J14 _ _ h)
  · refine V_iload_n X dX10_crookedBy_5 3 rfl ?_
    refine V_iload_n X dX10_crookedBy_6 2 rfl ?_
    refine V_isub X dX10_crookedBy_7 ?_
    refine V_goto (tgt := 14) X dX10_crookedBy_8 (by decide) ?_
    exact V_sub [1] rfl (J14 _ _ h)
set_option maxHeartbeats 4000000 in
theorem con_m_crossOn_F (N : Nat) (fr lo : Nat) (R_crossOn : GS → Int → Int → Int → Int → Int → Option GS) (H_crossOn : ∀ (g : GS) (a0 a1 a2 a3 a4 : Int) (r : GS), R_crossOn g a0 a1 a2 a3 a4 = some r → Con yX10_crossOn cX10_crossOn 7 none fr lo Km (fun b => [.ref (b + 0), vI a0, vI a1, vI a2, vI a3, vI a4]) g (fun _ => none) r) (g : GS) (l1 : Int) (l2 : Int) (l3 : Int) (l4 : Int) (l5 : Int) (r : GS) (h : m_crossOn_F N R_crossOn g l1 l2 l3 l4 l5 = some r) : Con yX10_crossOn cX10_crossOn 7 none (fr + 3) (lo + 77) Km (fun b => [.ref (b + 0), vI l1, vI l2, vI l3, vI l4, vI l5]) g (fun _ => none) r := by
  refine Con.of RX10 (by decide) rfl (fun b => Nat.le_of_ble_eq_true rfl) (fun x sz hX => ?_)
  have X := hX.1
  have LL35 : ∀ (l1 : Int) (l2 : Int) (l3 : Int) (l4 : Int) (l5 : Int) (n : Nat) (s : (GS × Int)) (e : GS), loopN (fun s => m_crossOn_F_b35 N R_crossOn l1 l2 l3 l4 l5 s.1 s.2) n s = some e → (e = r) → V x 7 Km 0 0 sz s.1 35 [(0, .ref (xb x + 0)), (1, vI l1), (2, vI l2), (3, vI l3), (4, vI l4), (5, vI l5), (6, vI s.2)] [] := by
    intro l1 l2 l3 l4 l5 n s e
    refine loop_walk (P := fun s => V x 7 Km 0 0 sz s.1 35 [(0, .ref (xb x + 0)), (1, vI l1), (2, vI l2), (3, vI l3), (4, vI l4), (5, vI l5), (6, vI s.2)] []) (E := fun e => e = r) ?_ n s e
    clear e s n
    rintro ⟨g, l6⟩ q35 h hc35 he35
    replace h : m_crossOn_F_b35 N R_crossOn l1 l2 l3 l4 l5 g l6 = some q35 := h
    have J82 : ∀ (g : GS) (l6 : Int) (s0 : Int) (s1 : Int) (s2 : Int) (s3 : Int) (s4 : Int), m_crossOn_F_j82 N R_crossOn g l1 l2 l3 l4 l5 l6 s0 s1 s2 s3 s4 = some q35 → V x 7 Km 0 0 sz g 82 [(0, .ref (xb x + 0)), (1, vI l1), (2, vI l2), (3, vI l3), (4, vI l4), (5, vI l5), (6, vI l6)] [vI s0, vI s1, vI s2, vI s3, vI s4, .ref (xb x + 0)] := by
      intro g l6 s0 s1 s2 s3 s4 h
      unfold m_crossOn_F_j82 at h
      refine V_iadd X dX10_crossOn_82 ?_
      refine V_bipush X dX10_crossOn_83 (by decide) ?_
      refine V_iload X dX10_crossOn_85 5 rfl ?_
      refine V_imul X dX10_crossOn_87 ?_
      refine V_iload X dX10_crossOn_88 6 rfl ?_
      refine V_iadd X dX10_crossOn_90 ?_
      obtain ⟨c91, hc91, h⟩ := bind_some_eq h
      refine V_callV (As := [vI s4, vI s3, vI s2, vI (s1 + s0), vI ((10 * l5) + l6)]) (rest := []) (s1 := []) (o := 0) X (H_crossOn g s4 s3 s2 (s1 + s0) ((10 * l5) + l6) c91 hc91) gwX10_crossOn hdX10_crossOn ⟨by dsimp only; omega, by dsimp only; omega⟩ rfl (by decide) rfl rfl rfl (Nat.le_of_ble_eq_true rfl) ⟨Nat.zero_le _, Nat.zero_le _⟩ dX10_crossOn_91 rfl rfl ?_
      refine V_iinc X dX10_crossOn_94 6 rfl (by decide) (L' := [(6, vI (l6 + 1)), (0, .ref (xb x + 0)), (1, vI l1), (2, vI l2), (3, vI l3), (4, vI l4), (5, vI l5)]) rfl ?_
      refine V_goto (tgt := 35) X dX10_crossOn_97 (by decide) ?_
      exact V_sub [1, 2, 3, 4, 5, 6, 0] rfl (hc35 _ (Option.some.inj h).symm)
    unfold m_crossOn_F_b35 at h
    show V x 7 Km 0 0 sz g 35 [(0, .ref (xb x + 0)), (1, vI l1), (2, vI l2), (3, vI l3), (4, vI l4), (5, vI l5), (6, vI l6)] []
    refine V_iload X dX10_crossOn_35 6 rfl ?_
    refine V_iload_n X dX10_crossOn_37 1 rfl ?_
    refine V_icmp_gt (tgt := 100) X dX10_crossOn_38 (by decide) h (fun h => ?_) (fun h => ?_)
    · obtain ⟨e1, h, e1q⟩ := outR_some h
      replace h := h.trans (congrArg some (he35 _ e1q))
      have hr := Option.some.inj h
      subst hr
      exact V_end_v hX rfl dX10_crossOn_100
    · refine V_iload_n X dX10_crossOn_41 2 rfl ?_
      refine V_iload X dX10_crossOn_42 6 rfl ?_
      refine V_iconst X dX10_crossOn_44 ?_
      refine V_isub X dX10_crossOn_45 ?_
      refine V_ishr X dX10_crossOn_46 ?_
      refine V_iconst X dX10_crossOn_47 ?_
      refine V_iand X dX10_crossOn_48 ?_
      refine V_if_ne (tgt := 94) X dX10_crossOn_49 (by decide) h (fun h => ?_) (fun h => ?_)
      · refine V_iinc X dX10_crossOn_94 6 rfl (by decide) (L' := [(6, vI (l6 + 1)), (0, .ref (xb x + 0)), (1, vI l1), (2, vI l2), (3, vI l3), (4, vI l4), (5, vI l5)]) rfl ?_
        refine V_goto (tgt := 35) X dX10_crossOn_97 (by decide) ?_
        exact V_sub [1, 2, 3, 4, 5, 6, 0] rfl (hc35 _ (Option.some.inj h).symm)
      · refine V_aload_n X dX10_crossOn_52 0 rfl ?_
        refine V_iload_n X dX10_crossOn_53 1 rfl ?_
        refine V_iload_n X dX10_crossOn_54 2 rfl ?_
        refine V_iconst X dX10_crossOn_55 ?_
        refine V_iload X dX10_crossOn_56 6 rfl ?_
        refine V_iconst X dX10_crossOn_58 ?_
        refine V_isub X dX10_crossOn_59 ?_
        refine V_ishl X dX10_crossOn_60 ?_
        refine V_ior X dX10_crossOn_61 ?_
        refine V_iload X dX10_crossOn_62 6 rfl ?_
        refine V_iload X dX10_crossOn_64 4 rfl ?_
        refine V_iload_n X dX10_crossOn_66 3 rfl ?_
        refine V_if_ne (tgt := 74) X dX10_crossOn_67 (by decide) h (fun h => ?_) (fun h => ?_)
        · refine V_aload_n X dX10_crossOn_74 0 rfl ?_
          refine V_iload_n X dX10_crossOn_75 1 rfl ?_
          refine V_iload_n X dX10_crossOn_76 3 rfl ?_
          refine V_iload X dX10_crossOn_77 6 rfl ?_
          obtain ⟨c79, hc79, h⟩ := bind_some_eq h
          refine V_callV (As := [vI l1, vI l3, vI l6]) (rest := [vI l4, vI l6, vI (i_or l2 (i_shl 1 (l6 - 1))), vI l1, .ref (xb x + 0)]) (s1 := [vI c79, vI l4, vI l6, vI (i_or l2 (i_shl 1 (l6 - 1))), vI l1, .ref (xb x + 0)]) (o := 0) X (con_m_crookedBy g l1 l3 l6 c79 hc79) gwX10_crookedBy hdX10_crookedBy ⟨by dsimp only; omega, by dsimp only; omega⟩ rfl (by decide) rfl rfl rfl (Nat.le_of_ble_eq_true rfl) ⟨Nat.zero_le _, Nat.zero_le _⟩ dX10_crossOn_79 rfl rfl ?_
          exact V_sub [0, 1, 2, 3, 4, 5, 6] rfl (J82 _ _ _ _ _ _ _ h)
        · refine V_iconst X dX10_crossOn_70 ?_
          refine V_goto (tgt := 82) X dX10_crossOn_71 (by decide) ?_
          exact V_sub [0, 1, 2, 3, 4, 5, 6] rfl (J82 _ _ _ _ _ _ _ h)
  unfold m_crossOn_F at h
  show V x 7 Km 0 0 sz g 0 [(0, .ref (xb x + 0)), (1, vI l1), (2, vI l2), (3, vI l3), (4, vI l4), (5, vI l5)] []
  refine V_iload_n X dX10_crossOn_0 2 rfl ?_
  refine V_iconst X dX10_crossOn_1 ?_
  refine V_iload_n X dX10_crossOn_2 1 rfl ?_
  refine V_ishl X dX10_crossOn_3 ?_
  refine V_iconst X dX10_crossOn_4 ?_
  refine V_isub X dX10_crossOn_5 ?_
  refine V_icmp_ne (tgt := 32) X dX10_crossOn_6 (by decide) h (fun h => ?_) (fun h => ?_)
  · refine V_iconst X dX10_crossOn_32 ?_
    refine V_istore X dX10_crossOn_33 (by decide) (L' := [(6, vI 1), (0, .ref (xb x + 0)), (1, vI l1), (2, vI l2), (3, vI l3), (4, vI l4), (5, vI l5)]) rfl ?_
    exact V_sub [1, 2, 3, 4, 5, 6, 0] rfl (LL35 l1 l2 l3 l4 l5 N (g, 1) _ h rfl)
  · refine V_iload X dX10_crossOn_9 4 rfl ?_
    refine V_aload_n X dX10_crossOn_11 0 rfl ?_
    refine getX10 X (o := 0) (j := 65) rfl (by decide) q1613 (fv_0 rfl) dX10_crossOn_12 ?_
    refine V_icmp_lt (tgt := 19) X dX10_crossOn_15 (by decide) h (fun h => ?_) (fun h => ?_)
    · refine V_aload_n X dX10_crossOn_19 0 rfl ?_
      refine V_iload X dX10_crossOn_20 4 rfl ?_
      refine putX10 X (o := 0) (j := 65) (a := l4) rfl (by decide) rfl rfl rfl q1613 dX10_crossOn_22 ?_
      refine V_aload_n X dX10_crossOn_25 0 rfl ?_
      refine V_iload X dX10_crossOn_26 5 rfl ?_
      refine putX10 X (o := 0) (j := 66) (a := l5) rfl (by decide) rfl rfl rfl q1614 dX10_crossOn_28 ?_
      have hr := Option.some.inj h
      subst hr
      exact V_end_v hX rfl dX10_crossOn_31
    · have hr := Option.some.inj h
      subst hr
      exact V_end_v hX rfl dX10_crossOn_18
theorem con_m_crossOn_R (N : Nat) : ∀ (d : Nat) (g : GS) (a0 a1 a2 a3 a4 : Int) (r : GS), m_crossOn_R N d g a0 a1 a2 a3 a4 = some r → Con yX10_crossOn cX10_crossOn 7 none (d * 3) (d * 77) Km (fun b => [.ref (b + 0), vI a0, vI a1, vI a2, vI a3, vI a4]) g (fun _ => none) r := by
  intro d
  induction d with
  | zero => intro g a0 a1 a2 a3 a4 r h; cases h
  | succ d ih =>
    intro g a0 a1 a2 a3 a4 r h
    have h2 := con_m_crossOn_F N (d * 3) (d * 77) (m_crossOn_R N d) ih g a0 a1 a2 a3 a4 r h
    rwa [show d * 3 + 3 = (d + 1) * 3 by omega, show d * 77 + 77 = (d + 1) * 77 by omega] at h2
theorem con_m_crossOn (N : Nat) (g : GS) (a0 a1 a2 a3 a4 : Int) (r : GS) (h : m_crossOn N g a0 a1 a2 a3 a4 = some r) : Con yX10_crossOn cX10_crossOn 7 none 48 1232 Km (fun b => [.ref (b + 0), vI a0, vI a1, vI a2, vI a3, vI a4]) g (fun _ => none) r := con_m_crossOn_R N 16 g a0 a1 a2 a3 a4 r h
set_option maxHeartbeats 4000000 in
theorem con_m_cross (N : Nat) (g : GS) (l1 : Int) (l2 : Int) (r : (Int × GS)) (h : m_cross N g l1 l2 = some r) : Con yX10_cross cX10_cross 3 (some .int) 49 1258 Km (fun b => [.ref (b + 0), vI l1, vI l2]) g (fun _ => some (vI r.1)) r.2 := by
  refine Con.of RX10 (by decide) rfl (fun b => Nat.le_of_ble_eq_true rfl) (fun x sz hX => ?_)
  have X := hX.1
  have J30 : ∀ (g : GS) (l1 : Int) (l2 : Int) (s0 : Int), m_cross_j30 N g l1 l2 s0 = some r → V x 3 Km 0 0 sz g 30 [(0, .ref (xb x + 0)), (1, vI l1), (2, vI l2)] [vI s0, .ref (xb x + 0)] := by
    intro g l1 l2 s0 h
    unfold m_cross_j30 at h
    refine V_iconst X dX10_cross_30 ?_
    refine V_iconst X dX10_cross_31 ?_
    obtain ⟨c32, hc32, h⟩ := bind_some_eq h
    refine V_callV (As := [vI s0, vI 1, vI 1]) (rest := []) (s1 := [vI c32.1]) (o := 0) X (con_m_may g s0 1 1 c32 hc32) gwX10_may hdX10_may (by decide) rfl (by decide) rfl rfl rfl (Nat.le_of_ble_eq_true rfl) ⟨Nat.zero_le _, Nat.zero_le _⟩ dX10_cross_32 rfl rfl ?_
    refine V_if_ne (tgt := 40) X dX10_cross_35 (by decide) h (fun h => ?_) (fun h => ?_)
    · refine V_aload_n X dX10_cross_40 0 rfl ?_
      refine V_ldcw X q2056 (n := 1000000) (by decide) dX10_cross_41 ?_
      refine putX10 X (o := 0) (j := 65) (a := 1000000) rfl (by decide) rfl rfl rfl q1613 dX10_cross_44 ?_
      refine V_aload_n X dX10_cross_47 0 rfl ?_
      refine V_iload_n X dX10_cross_48 1 rfl ?_
      refine V_iconst X dX10_cross_49 ?_
      refine V_iconst X dX10_cross_50 ?_
      refine V_iconst X dX10_cross_51 ?_
      refine V_iconst X dX10_cross_52 ?_
      obtain ⟨c53, hc53, h⟩ := bind_some_eq h
      refine V_callV (As := [vI l1, vI 0, vI 0, vI 0, vI 0]) (rest := []) (s1 := []) (o := 0) X (con_m_crossOn N (sI c32.2 965 0 1000000) l1 0 0 0 0 c53 hc53) gwX10_crossOn hdX10_crossOn (by decide) rfl (by decide) rfl rfl rfl (Nat.le_of_ble_eq_true rfl) ⟨Nat.zero_le _, Nat.zero_le _⟩ dX10_cross_53 rfl rfl ?_
      refine V_iload_n X dX10_cross_56 2 rfl ?_
      refine V_if_ne (tgt := 67) X dX10_cross_57 (by decide) h (fun h => ?_) (fun h => ?_)
      · refine V_aload_n X dX10_cross_67 0 rfl ?_
        refine getX10 X (o := 0) (j := 66) rfl (by decide) q1614 (fv_0 rfl) dX10_cross_68 ?_
        have hr := Option.some.inj h
        subst hr
        exact V_end_i hX rfl dX10_cross_71
      · refine V_aload_n X dX10_cross_60 0 rfl ?_
        refine getX10 X (o := 0) (j := 65) rfl (by decide) q1613 (fv_0 rfl) dX10_cross_61 ?_
        refine V_goto (tgt := 71) X dX10_cross_64 (by decide) ?_
        have hr := Option.some.inj h
        subst hr
        exact V_end_i hX rfl dX10_cross_71
    · refine V_iconst X dX10_cross_38 ?_
      have hr := Option.some.inj h
      subst hr
      exact V_end_i hX rfl dX10_cross_39
  have J29 : ∀ (g : GS) (l1 : Int) (l2 : Int), m_cross_j29 N g l1 l2 = some r → V x 3 Km 0 0 sz g 29 [(0, .ref (xb x + 0)), (1, vI l1), (2, vI l2)] [.ref (xb x + 0)] := by
    intro g l1 l2 h
    unfold m_cross_j29 at h
    refine V_iconst X dX10_cross_29 ?_
    exact V_sub [0, 1, 2] rfl (J30 _ _ _ _ h)
  unfold m_cross at h
  show V x 3 Km 0 0 sz g 0 [(0, .ref (xb x + 0)), (1, vI l1), (2, vI l2)] []
  refine V_aload_n X dX10_cross_0 0 rfl ?_
  refine V_iconst X dX10_cross_1 ?_
  refine putX10 X (o := 0) (j := 0) (a := 0) rfl (by decide) rfl rfl rfl q1548 dX10_cross_2 ?_
  refine V_aload_n X dX10_cross_5 0 rfl ?_
  refine V_iload_n X dX10_cross_6 1 rfl ?_
  refine V_iconst X dX10_cross_7 ?_
  refine V_bipush X dX10_cross_8 (by decide) ?_
  obtain ⟨c10, hc10, h⟩ := bind_some_eq h
  refine V_callS (As := [vI l1, vI 3, vI 6]) (rest := [.ref (xb x + 0)]) (s1 := [vI c10, .ref (xb x + 0)]) X (con_m_within (sI g 900 0 0) l1 3 6 c10 hc10) gwX10_within hdX10_within (by decide) rfl rfl (Nat.le_of_ble_eq_true rfl) ⟨Nat.zero_le _, Nat.zero_le _⟩ dX10_cross_10 rfl rfl ?_
  refine V_if_eq (tgt := 29) X dX10_cross_13 (by decide) h (fun h => ?_) (fun h => ?_)
  · exact V_sub [0, 1, 2] rfl (J29 _ _ _ h)
  · refine V_iload_n X dX10_cross_16 2 rfl ?_
    refine V_iconst X dX10_cross_17 ?_
    refine V_iconst X dX10_cross_18 ?_
    obtain ⟨c19, hc19, h⟩ := bind_some_eq h
    refine V_callS (As := [vI l2, vI 0, vI 1]) (rest := [.ref (xb x + 0)]) (s1 := [vI c19, .ref (xb x + 0)]) X (con_m_within (sI g 900 0 0) l2 0 1 c19 hc19) gwX10_within hdX10_within (by decide) rfl rfl (Nat.le_of_ble_eq_true rfl) ⟨Nat.zero_le _, Nat.zero_le _⟩ dX10_cross_19 rfl rfl ?_
    refine V_if_eq (tgt := 29) X dX10_cross_22 (by decide) h (fun h => ?_) (fun h => ?_)
    · exact V_sub [0, 1, 2] rfl (J29 _ _ _ h)
    · refine V_iconst X dX10_cross_25 ?_
      refine V_goto (tgt := 30) X dX10_cross_26 (by decide) ?_
      exact V_sub [0, 1, 2] rfl (J30 _ _ _ _ h)
set_option maxHeartbeats 4000000 in
theorem con_m_crooked (N : Nat) (g : GS) (l1 : Int) (r : (Int × GS)) (h : m_crooked N g l1 = some r) : Con yX10_crooked cX10_crooked 7 (some .int) 2 37 Km (fun b => [.ref (b + 0), vI l1]) g (fun _ => some (vI r.1)) r.2 := by
  refine Con.of RX10 (by decide) rfl (fun b => Nat.le_of_ble_eq_true rfl) (fun x sz hX => ?_)
  have X := hX.1
  have LL136 : ∀ (g : GS) (l2 : Int) (n : Nat) (s : (Int × Int)) (e : (Int × GS)), loopN (fun s => m_crooked_b136 N g l2 s.1 s.2) n s = some e → (e = r) → V x 7 Km 0 0 sz g 136 [(0, .ref (xb x + 0)), (2, vI l2), (5, vI s.1), (6, vI s.2)] [] := by
    intro g l2 n s e
    refine loop_walk (P := fun s => V x 7 Km 0 0 sz g 136 [(0, .ref (xb x + 0)), (2, vI l2), (5, vI s.1), (6, vI s.2)] []) (E := fun e => e = r) ?_ n s e
    clear e s n
    rintro ⟨l5, l6⟩ q136 h hc136 he136
    replace h : m_crooked_b136 N g l2 l5 l6 = some q136 := h
    unfold m_crooked_b136 at h
    show V x 7 Km 0 0 sz g 136 [(0, .ref (xb x + 0)), (2, vI l2), (5, vI l5), (6, vI l6)] []
    refine V_iload X dX10_crooked_136 3 rfl ?_
    refine V_bipush X dX10_crooked_138 (by decide) ?_
    refine V_icmp_le (tgt := 176) X dX10_crooked_140 (by decide) h (fun h => ?_) (fun h => ?_)
    · obtain ⟨e1, h, e1q⟩ := outR_some h
      replace h := h.trans (congrArg some (he136 _ e1q))
      refine V_iload X dX10_crooked_176 2 rfl ?_
      have hr := Option.some.inj h
      subst hr
      exact V_end_i hX rfl dX10_crooked_178
    · refine V_iload X dX10_crooked_143 2 rfl ?_
      refine V_aload_n X dX10_crooked_145 0 rfl ?_
      refine V_iload_n X dX10_crooked_146 1 rfl ?_
      refine V_iload X dX10_crooked_147 3 rfl ?_
      refine V_bipush X dX10_crooked_149 (by decide) ?_
      refine V_idivK X dX10_crooked_151 (by decide) ?_
      refine V_bipush X dX10_crooked_152 (by decide) ?_
      refine V_iremK X dX10_crooked_154 (by decide) ?_
      refine V_iload X dX10_crooked_155 3 rfl ?_
      refine V_bipush X dX10_crooked_157 (by decide) ?_
      refine V_iremK X dX10_crooked_159 (by decide) ?_
      obtain ⟨c160, hc160, h⟩ := bind_some_eq h
      refine V_callV (As := [vI l2, vI (i_rem (i_div l6 10) 10), vI (i_rem l6 10)]) (rest := [vI l5]) (s1 := [vI c160, vI l5]) (o := 0) X (con_m_crookedBy g l2 (i_rem (i_div l6 10) 10) (i_rem l6 10) c160 hc160) gwX10_crookedBy hdX10_crookedBy (by decide) rfl (by decide) rfl rfl rfl (Nat.le_of_ble_eq_true rfl) ⟨Nat.zero_le _, Nat.zero_le _⟩ dX10_crooked_160 rfl rfl ?_
      refine V_iadd X dX10_crooked_163 ?_
      refine V_istore X dX10_crooked_164 (by decide) (L' := [(5, vI (l5 + c160)), (0, .ref (xb x + 0)), (2, vI l2), (6, vI l6)]) rfl ?_
      refine V_iload X dX10_crooked_166 3 rfl ?_
      refine V_bipush X dX10_crooked_168 (by decide) ?_
      refine V_idivK X dX10_crooked_170 (by decide) ?_
      refine V_istore X dX10_crooked_171 (by decide) (L' := [(6, vI (i_div l6 10)), (5, vI (l5 + c160)), (0, .ref (xb x + 0)), (2, vI l2)]) rfl ?_
      refine V_goto (tgt := 136) X dX10_crooked_173 (by decide) ?_
      exact V_sub [2, 3, 1, 0] rfl (hc136 _ (Option.some.inj h).symm)
  have J120 : ∀ (g : GS) (l1 : Int) (l2 : Int) (s0 : Int), m_crooked_j120 N g l1 l2 s0 = some r → V x 7 Km 0 0 sz g 120 [(0, .ref (xb x + 0)), (1, vI l1), (2, vI l2)] [vI s0, .ref (xb x + 0)] := by
    intro g l1 l2 s0 h
    unfold m_crooked_j120 at h
    refine V_iconst X dX10_crooked_120 ?_
    refine V_iconst X dX10_crooked_121 ?_
    obtain ⟨c122, hc122, h⟩ := bind_some_eq h
    refine V_callV (As := [vI s0, vI 1, vI 1]) (rest := []) (s1 := [vI c122.1]) (o := 0) X (con_m_may g s0 1 1 c122 hc122) gwX10_may hdX10_may (by decide) rfl (by decide) rfl rfl rfl (Nat.le_of_ble_eq_true rfl) ⟨Nat.zero_le _, Nat.zero_le _⟩ dX10_crooked_122 rfl rfl ?_
    refine V_if_ne (tgt := 130) X dX10_crooked_125 (by decide) h (fun h => ?_) (fun h => ?_)
    · refine V_iconst X dX10_crooked_130 ?_
      refine V_istore X dX10_crooked_131 (by decide) (L' := [(5, vI 0), (0, .ref (xb x + 0)), (1, vI l1), (2, vI l2)]) rfl ?_
      refine V_iload_n X dX10_crooked_133 2 rfl ?_
      refine V_istore X dX10_crooked_134 (by decide) (L' := [(6, vI l1), (5, vI 0), (0, .ref (xb x + 0)), (1, vI l1), (2, vI l2)]) rfl ?_
      exact V_sub [2, 4, 1, 0] rfl (LL136 c122.2 l2 N (0, l1) _ h rfl)
    · refine V_iconst X dX10_crooked_128 ?_
      have hr := Option.some.inj h
      subst hr
      exact V_end_i hX rfl dX10_crooked_129
  have J119 : ∀ (g : GS) (l1 : Int) (l2 : Int), m_crooked_j119 N g l1 l2 = some r → V x 7 Km 0 0 sz g 119 [(0, .ref (xb x + 0)), (1, vI l1), (2, vI l2)] [.ref (xb x + 0)] := by
    intro g l1 l2 h
    unfold m_crooked_j119 at h
    refine V_iconst X dX10_crooked_119 ?_
    exact V_sub [0, 1, 2] rfl (J120 _ _ _ _ h)
  have J88 : ∀ (g : GS) (l1 : Int) (l2 : Int) (l3 : Int) (l4 : Int), m_crooked_j88 N g l1 l2 l3 l4 = some r → V x 7 Km 0 0 sz g 88 [(0, .ref (xb x + 0)), (1, vI l1), (2, vI l2), (3, vI l3), (4, vI l4)] [] := by
    intro g l1 l2 l3 l4 h
    unfold m_crooked_j88 at h
    refine V_aload_n X dX10_crooked_88 0 rfl ?_
    refine V_iload X dX10_crooked_89 4 rfl ?_
    refine V_if_eq (tgt := 119) X dX10_crooked_91 (by decide) h (fun h => ?_) (fun h => ?_)
    · exact V_sub [0, 1, 2] rfl (J119 _ _ _ h)
    · refine V_iload_n X dX10_crooked_94 2 rfl ?_
      refine V_iconst X dX10_crooked_95 ?_
      refine V_bipush X dX10_crooked_96 (by decide) ?_
      obtain ⟨c98, hc98, h⟩ := bind_some_eq h
      refine V_callS (As := [vI l2, vI 3, vI 6]) (rest := [.ref (xb x + 0)]) (s1 := [vI c98, .ref (xb x + 0)]) X (con_m_within g l2 3 6 c98 hc98) gwX10_within hdX10_within (by decide) rfl rfl (Nat.le_of_ble_eq_true rfl) ⟨Nat.zero_le _, Nat.zero_le _⟩ dX10_crooked_98 rfl rfl ?_
      refine V_if_eq (tgt := 119) X dX10_crooked_101 (by decide) h (fun h => ?_) (fun h => ?_)
      · exact V_sub [0, 1, 2] rfl (J119 _ _ _ h)
      · refine V_iload_n X dX10_crooked_104 3 rfl ?_
        refine V_iconst X dX10_crooked_105 ?_
        refine V_iload_n X dX10_crooked_106 2 rfl ?_
        refine V_iconst X dX10_crooked_107 ?_
        refine V_iadd X dX10_crooked_108 ?_
        refine V_ishl X dX10_crooked_109 ?_
        refine V_iconst X dX10_crooked_110 ?_
        refine V_isub X dX10_crooked_111 ?_
        refine V_icmp_ne (tgt := 119) X dX10_crooked_112 (by decide) h (fun h => ?_) (fun h => ?_)
        · exact V_sub [0, 1, 2] rfl (J119 _ _ _ h)
        · refine V_iconst X dX10_crooked_115 ?_
          refine V_goto (tgt := 120) X dX10_crooked_116 (by decide) ?_
          exact V_sub [0, 1, 2] rfl (J120 _ _ _ _ h)
  have LL30 : ∀ (g : GS) (l1 : Int) (n : Nat) (s : (Int × Int × Int × Int)) (e : (Int × Int × Int)), loopN (fun s => m_crooked_b30 N g l1 s.1 s.2.1 s.2.2.1 s.2.2.2) n s = some e → V x 7 Km 0 0 sz g 88 [(0, .ref (xb x + 0)), (1, vI l1), (2, vI e.1), (3, vI e.2.1), (4, vI e.2.2)] [] → V x 7 Km 0 0 sz g 30 [(0, .ref (xb x + 0)), (1, vI l1), (2, vI s.1), (3, vI s.2.1), (4, vI s.2.2.1), (5, vI s.2.2.2)] [] := by
    intro g l1 n s e
    refine loop_walk (P := fun s => V x 7 Km 0 0 sz g 30 [(0, .ref (xb x + 0)), (1, vI l1), (2, vI s.1), (3, vI s.2.1), (4, vI s.2.2.1), (5, vI s.2.2.2)] []) (E := fun e => V x 7 Km 0 0 sz g 88 [(0, .ref (xb x + 0)), (1, vI l1), (2, vI e.1), (3, vI e.2.1), (4, vI e.2.2)] []) ?_ n s e
    clear e s n
    rintro ⟨l2, l3, l4, l5⟩ q30 h hc30 he30
    replace h : m_crooked_b30 N g l1 l2 l3 l4 l5 = some q30 := h
    have J66 : ∀ (l2 : Int) (l3 : Int) (l5 : Int) (l6 : Int) (s0 : Int), m_crooked_j66 N g l1 l2 l3 l5 l6 s0 = some q30 → V x 7 Km 0 0 sz g 66 [(0, .ref (xb x + 0)), (1, vI l1), (2, vI l2), (3, vI l3), (5, vI l5), (6, vI l6)] [vI s0] := by
      intro l2 l3 l5 l6 s0 h
      unfold m_crooked_j66 at h
      refine V_istore X dX10_crooked_66 (by decide) (L' := [(4, vI s0), (0, .ref (xb x + 0)), (1, vI l1), (2, vI l2), (3, vI l3), (5, vI l5), (6, vI l6)]) rfl ?_
      refine V_iload_n X dX10_crooked_68 4 rfl ?_
      refine V_iconst X dX10_crooked_69 ?_
      refine V_iload X dX10_crooked_70 6 rfl ?_
      refine V_ishl X dX10_crooked_72 ?_
      refine V_ior X dX10_crooked_73 ?_
      refine V_istore_n X dX10_crooked_74 (by decide) (L' := [(3, vI (i_or l3 (i_shl 1 l6))), (4, vI s0), (0, .ref (xb x + 0)), (1, vI l1), (2, vI l2), (5, vI l5), (6, vI l6)]) rfl ?_
      refine V_iinc X dX10_crooked_75 4 rfl (by decide) (L' := [(2, vI (l2 + 1)), (3, vI (i_or l3 (i_shl 1 l6))), (4, vI s0), (0, .ref (xb x + 0)), (1, vI l1), (5, vI l5), (6, vI l6)]) rfl ?_
      refine V_iload X dX10_crooked_78 5 rfl ?_
      refine V_bipush X dX10_crooked_80 (by decide) ?_
      refine V_idivK X dX10_crooked_82 (by decide) ?_
      refine V_istore X dX10_crooked_83 (by decide) (L' := [(5, vI (i_div l5 10)), (2, vI (l2 + 1)), (3, vI (i_or l3 (i_shl 1 l6))), (4, vI s0), (0, .ref (xb x + 0)), (1, vI l1), (6, vI l6)]) rfl ?_
      refine V_goto (tgt := 30) X dX10_crooked_85 (by decide) ?_
      exact V_sub [4, 5, 1, 2, 3, 0] rfl (hc30 _ (Option.some.inj h).symm)
    have J65 : ∀ (l2 : Int) (l3 : Int) (l5 : Int) (l6 : Int), m_crooked_j65 N g l1 l2 l3 l5 l6 = some q30 → V x 7 Km 0 0 sz g 65 [(0, .ref (xb x + 0)), (1, vI l1), (2, vI l2), (3, vI l3), (5, vI l5), (6, vI l6)] [] := by
      intro l2 l3 l5 l6 h
      unfold m_crooked_j65 at h
      refine V_iconst X dX10_crooked_65 ?_
      exact V_sub [0, 1, 2, 3, 4, 5] rfl (J66 _ _ _ _ _ h)
    unfold m_crooked_b30 at h
    show V x 7 Km 0 0 sz g 30 [(0, .ref (xb x + 0)), (1, vI l1), (2, vI l2), (3, vI l3), (4, vI l4), (5, vI l5)] []
    refine V_iload X dX10_crooked_30 5 rfl ?_
    refine V_if_le (tgt := 88) X dX10_crooked_32 (by decide) h (fun h => ?_) (fun h => ?_)
    · exact V_sub [0, 1, 2, 3, 4] rfl (he30 _ (Option.some.inj h).symm)
    · refine V_iload X dX10_crooked_35 4 rfl ?_
      refine V_if_eq (tgt := 88) X dX10_crooked_37 (by decide) h (fun h => ?_) (fun h => ?_)
      · exact V_sub [0, 1, 2, 3, 4] rfl (he30 _ (Option.some.inj h).symm)
      · refine V_iload X dX10_crooked_40 5 rfl ?_
        refine V_bipush X dX10_crooked_42 (by decide) ?_
        refine V_iremK X dX10_crooked_44 (by decide) ?_
        refine V_istore X dX10_crooked_45 (by decide) (L' := [(6, vI (i_rem l5 10)), (0, .ref (xb x + 0)), (1, vI l1), (2, vI l2), (3, vI l3), (4, vI l4), (5, vI l5)]) rfl ?_
        refine V_iload X dX10_crooked_47 0 rfl ?_
        refine V_if_le (tgt := 65) X dX10_crooked_49 (by decide) h (fun h => ?_) (fun h => ?_)
        · exact V_sub [1, 2, 3, 4, 6, 0] rfl (J65 _ _ _ _ h)
        · refine V_iload_n X dX10_crooked_52 4 rfl ?_
          refine V_iload X dX10_crooked_53 0 rfl ?_
          refine V_ishr X dX10_crooked_55 ?_
          refine V_iconst X dX10_crooked_56 ?_
          refine V_iand X dX10_crooked_57 ?_
          refine V_if_ne (tgt := 65) X dX10_crooked_58 (by decide) h (fun h => ?_) (fun h => ?_)
          · exact V_sub [1, 2, 3, 4, 6, 0] rfl (J65 _ _ _ _ h)
          · refine V_iconst X dX10_crooked_61 ?_
            refine V_goto (tgt := 66) X dX10_crooked_62 (by decide) ?_
            exact V_sub [1, 2, 3, 4, 6, 0] rfl (J66 _ _ _ _ _ h)
  have J25 : ∀ (g : GS) (l1 : Int) (l2 : Int) (l3 : Int) (s0 : Int), m_crooked_j25 N g l1 l2 l3 s0 = some r → V x 7 Km 0 0 sz g 25 [(0, .ref (xb x + 0)), (1, vI l1), (2, vI l2), (3, vI l3)] [vI s0] := by
    intro g l1 l2 l3 s0 h
    unfold m_crooked_j25 at h
    refine V_istore X dX10_crooked_25 (by decide) (L' := [(4, vI s0), (0, .ref (xb x + 0)), (1, vI l1), (2, vI l2), (3, vI l3)]) rfl ?_
    refine V_iload_n X dX10_crooked_27 2 rfl ?_
    refine V_istore X dX10_crooked_28 (by decide) (L' := [(5, vI l1), (4, vI s0), (0, .ref (xb x + 0)), (1, vI l1), (2, vI l2), (3, vI l3)]) rfl ?_
    obtain ⟨t2, t2q, h⟩ := bind_some_eq h
    refine V_sub [2, 3, 4, 5, 1, 0] rfl (LL30 g l1 N (l2, l3, s0, l1) _ t2q ?_)
    exact V_sub [0, 1, 2, 3, 4] rfl (J88 _ _ _ _ _ h)
  have J24 : ∀ (g : GS) (l1 : Int) (l2 : Int) (l3 : Int), m_crooked_j24 N g l1 l2 l3 = some r → V x 7 Km 0 0 sz g 24 [(0, .ref (xb x + 0)), (1, vI l1), (2, vI l2), (3, vI l3)] [] := by
    intro g l1 l2 l3 h
    unfold m_crooked_j24 at h
    refine V_iconst X dX10_crooked_24 ?_
    exact V_sub [0, 1, 2, 3] rfl (J25 _ _ _ _ _ h)
  unfold m_crooked at h
  show V x 7 Km 0 0 sz g 0 [(0, .ref (xb x + 0)), (1, vI l1)] []
  refine V_aload_n X dX10_crooked_0 0 rfl ?_
  refine V_iconst X dX10_crooked_1 ?_
  refine putX10 X (o := 0) (j := 0) (a := 0) rfl (by decide) rfl rfl rfl q1548 dX10_crooked_2 ?_
  refine V_iconst X dX10_crooked_5 ?_
  refine V_istore_n X dX10_crooked_6 (by decide) (L' := [(2, vI 0), (0, .ref (xb x + 0)), (1, vI l1)]) rfl ?_
  refine V_iconst X dX10_crooked_7 ?_
  refine V_istore_n X dX10_crooked_8 (by decide) (L' := [(3, vI 0), (2, vI 0), (0, .ref (xb x + 0)), (1, vI l1)]) rfl ?_
  refine V_iload_n X dX10_crooked_9 3 rfl ?_
  refine V_if_le (tgt := 24) X dX10_crooked_10 (by decide) h (fun h => ?_) (fun h => ?_)
  · exact V_sub [2, 3, 1, 0] rfl (J24 _ _ _ _ h)
  · refine V_iload_n X dX10_crooked_13 3 rfl ?_
    refine V_ldcw X q2151 (n := 999999) (by decide) dX10_crooked_14 ?_
    refine V_icmp_gt (tgt := 24) X dX10_crooked_17 (by decide) h (fun h => ?_) (fun h => ?_)
    · exact V_sub [2, 3, 1, 0] rfl (J24 _ _ _ _ h)
    · refine V_iconst X dX10_crooked_20 ?_
      refine V_goto (tgt := 25) X dX10_crooked_21 (by decide) ?_
      exact V_sub [2, 3, 1, 0] rfl (J25 _ _ _ _ _ h)
set_option maxHeartbeats 4000000 in
theorem con_m_share (g : GS) (l1 : Int) (r : (Int × GS)) (h : m_share g l1 = some r) : Con yX10_share cX10_share 2 (some .int) 2 35 Km (fun b => [.ref (b + 0), vI l1]) g (fun _ => some (vI r.1)) r.2 := by
  refine Con.of RX10 (by decide) rfl (fun b => Nat.le_of_ble_eq_true rfl) (fun x sz hX => ?_)
  have X := hX.1
  unfold m_share at h
  show V x 2 Km 0 0 sz g 0 [(0, .ref (xb x + 0)), (1, vI l1)] []
  refine V_aload_n X dX10_share_0 0 rfl ?_
  refine V_iconst X dX10_share_1 ?_
  refine putX10 X (o := 0) (j := 0) (a := 0) rfl (by decide) rfl rfl rfl q1548 dX10_share_2 ?_
  refine V_aload_n X dX10_share_5 0 rfl ?_
  refine V_iload_n X dX10_share_6 1 rfl ?_
  refine V_iconst X dX10_share_7 ?_
  refine V_bipush X dX10_share_8 (by decide) ?_
  obtain ⟨c10, hc10, h⟩ := bind_some_eq h
  refine V_callS (As := [vI l1, vI 0, vI 12]) (rest := [.ref (xb x + 0)]) (s1 := [vI c10, .ref (xb x + 0)]) X (con_m_within (sI g 900 0 0) l1 0 12 c10 hc10) gwX10_within hdX10_within (by decide) rfl rfl (Nat.le_of_ble_eq_true rfl) ⟨Nat.zero_le _, Nat.zero_le _⟩ dX10_share_10 rfl rfl ?_
  refine V_iconst X dX10_share_13 ?_
  refine V_iconst X dX10_share_14 ?_
  obtain ⟨c15, hc15, h⟩ := bind_some_eq h
  refine V_callV (As := [vI c10, vI 1, vI 1]) (rest := []) (s1 := [vI c15.1]) (o := 0) X (con_m_may (sI g 900 0 0) c10 1 1 c15 hc15) gwX10_may hdX10_may (by decide) rfl (by decide) rfl rfl rfl (Nat.le_of_ble_eq_true rfl) ⟨Nat.zero_le _, Nat.zero_le _⟩ dX10_share_15 rfl rfl ?_
  refine V_if_ne (tgt := 23) X dX10_share_18 (by decide) h (fun h => ?_) (fun h => ?_)
  · refine V_bipush X dX10_share_23 (by decide) ?_
    refine V_iload_n X dX10_share_25 1 rfl ?_
    refine V_isub X dX10_share_26 ?_
    refine V_iconst X dX10_share_27 ?_
    refine V_idivK X dX10_share_28 (by decide) ?_
    have hr := Option.some.inj h
    subst hr
    exact V_end_i hX rfl dX10_share_29
  · refine V_iconst X dX10_share_21 ?_
    have hr := Option.some.inj h
    subst hr
    exact V_end_i hX rfl dX10_share_22
set_option maxHeartbeats 4000000 in
theorem con_m_findDrive (N : Nat) (g : GS) (l1 : Int) (r : (Int × GS)) (h : m_findDrive N g l1 = some r) : Con yX10_findDrive cX10_findDrive 10 (some .int) 1 12 Km (fun b => [.ref (b + 0), vI l1]) g (fun _ => some (vI r.1)) r.2 := by
  refine Con.of RX10 (by decide) rfl (fun b => Nat.le_of_ble_eq_true rfl) (fun x sz hX => ?_)
  have X := hX.1
  have LL30 : ∀  (n : Nat) (s : (GS × Int)) (e : (GS)), loopN (fun s => m_findDrive_b30 N s.1 s.2) n s = some e → V x 10 Km 0 0 sz e 219 [(0, .ref (xb x + 0))] [] → V x 10 Km 0 0 sz s.1 30 [(0, .ref (xb x + 0)), (2, vI s.2)] [] := by
    intro  n s e
    refine loop_walk (P := fun s => V x 10 Km 0 0 sz s.1 30 [(0, .ref (xb x + 0)), (2, vI s.2)] []) (E := fun e => V x 10 Km 0 0 sz e 219 [(0, .ref (xb x + 0))] []) ?_ n s e
    clear e s n
    rintro ⟨g, l2⟩ q30 h hc30 he30
    replace h : m_findDrive_b30 N g l2 = some q30 := h
    have LL36 : ∀ (l2 : Int) (n : Nat) (s : (GS × Int)) (e : (GS)), loopN (fun s => m_findDrive_b36 N l2 s.1 s.2) n s = some e → V x 10 Km 0 0 sz e 213 [(0, .ref (xb x + 0)), (2, vI l2)] [] → V x 10 Km 0 0 sz s.1 36 [(0, .ref (xb x + 0)), (2, vI l2), (3, vI s.2)] [] := by
      intro l2 n s e
      refine loop_walk (P := fun s => V x 10 Km 0 0 sz s.1 36 [(0, .ref (xb x + 0)), (2, vI l2), (3, vI s.2)] []) (E := fun e => V x 10 Km 0 0 sz e 213 [(0, .ref (xb x + 0)), (2, vI l2)] []) ?_ n s e
      clear e s n
      rintro ⟨g, l3⟩ q36 h hc36 he36
      replace h : m_findDrive_b36 N l2 g l3 = some q36 := h
      have LL50 : ∀ (g : GS) (l3 : Int) (n : Nat) (s : (Int × Int)) (e : (Int)), loopN (fun s => m_findDrive_b50 N g l2 l3 s.1 s.2) n s = some e → V x 10 Km 0 0 sz g 194 [(0, .ref (xb x + 0)), (2, vI l2), (3, vI l3), (4, vI e)] [] → V x 10 Km 0 0 sz g 50 [(0, .ref (xb x + 0)), (2, vI l2), (3, vI l3), (4, vI s.1), (5, vI s.2)] [] := by
        intro g l3 n s e
        refine loop_walk (P := fun s => V x 10 Km 0 0 sz g 50 [(0, .ref (xb x + 0)), (2, vI l2), (3, vI l3), (4, vI s.1), (5, vI s.2)] []) (E := fun e => V x 10 Km 0 0 sz g 194 [(0, .ref (xb x + 0)), (2, vI l2), (3, vI l3), (4, vI e)] []) ?_ n s e
        clear e s n
        rintro ⟨l4, l5⟩ q50 h hc50 he50
        replace h : m_findDrive_b50 N g l2 l3 l4 l5 = some q50 := h
        have J186 : ∀ (l5 : Int) (s0 : Int), m_findDrive_j186 N g l2 l3 l5 s0 = some q50 → V x 10 Km 0 0 sz g 186 [(0, .ref (xb x + 0)), (2, vI l2), (3, vI l3), (5, vI l5)] [vI s0] := by
          intro l5 s0 h
          unfold m_findDrive_j186 at h
          refine V_istore X dX10_findDrive_186 (by decide) (L' := [(4, vI s0), (0, .ref (xb x + 0)), (2, vI l2), (3, vI l3), (5, vI l5)]) rfl ?_
          refine V_iinc X dX10_findDrive_188 4 rfl (by decide) (L' := [(5, vI (l5 + 1)), (4, vI s0), (0, .ref (xb x + 0)), (2, vI l2), (3, vI l3)]) rfl ?_
          refine V_goto (tgt := 50) X dX10_findDrive_191 (by decide) ?_
          exact V_sub [2, 3, 4, 1, 0] rfl (hc50 _ (Option.some.inj h).symm)
        have J140 : ∀ (l4 : Int) (l5 : Int) (l7 : Int) (s0 : Int), m_findDrive_j140 N g l2 l3 l4 l5 l7 s0 = some q50 → V x 10 Km 0 0 sz g 140 [(0, .ref (xb x + 0)), (2, vI l2), (3, vI l3), (4, vI l4), (5, vI l5), (7, vI l7)] [vI s0] := by
          intro l4 l5 l7 s0 h
          unfold m_findDrive_j140 at h
          refine V_istore X dX10_findDrive_140 (by decide) (L' := [(8, vI s0), (0, .ref (xb x + 0)), (2, vI l2), (3, vI l3), (4, vI l4), (5, vI l5), (7, vI l7)]) rfl ?_
          refine V_sipush X dX10_findDrive_142 (by decide) ?_
          refine V_iload X dX10_findDrive_145 5 rfl ?_
          refine V_imul X dX10_findDrive_147 ?_
          refine V_sipush X dX10_findDrive_148 (by decide) ?_
          refine V_iload X dX10_findDrive_151 6 rfl ?_
          refine V_imul X dX10_findDrive_153 ?_
          refine V_iadd X dX10_findDrive_154 ?_
          refine V_aload_n X dX10_findDrive_155 1 rfl ?_
          refine getX10 X (o := 0) (j := 67) rfl (by decide) q1615 (fv_1 (i := 40) rfl rfl) dX10_findDrive_156 ?_
          refine V_bipush X dX10_findDrive_159 (by decide) ?_
          refine V_iload_n X dX10_findDrive_161 2 rfl ?_
          refine V_iconst X dX10_findDrive_162 ?_
          refine V_iadd X dX10_findDrive_163 ?_
          refine V_imul X dX10_findDrive_164 ?_
          refine V_iload X dX10_findDrive_165 0 rfl ?_
          refine V_iadd X dX10_findDrive_167 ?_
          refine V_iald X (o := 40) (n := 3200) rfl (by decide) dX10_findDrive_168 h (fun v168 h => ?_)
          refine V_iadd X dX10_findDrive_169 ?_
          refine V_istore X dX10_findDrive_170 (by decide) (L' := [(9, vI (((4001 * l5) + (1000 * l7)) + v168)), (8, vI s0), (0, .ref (xb x + 0)), (2, vI l2), (3, vI l3), (4, vI l4), (5, vI l5), (7, vI l7)]) rfl ?_
          refine V_iload X dX10_findDrive_172 0 rfl ?_
          refine V_iload X dX10_findDrive_174 5 rfl ?_
          refine V_icmp_ge (tgt := 184) X dX10_findDrive_176 (by decide) h (fun h => ?_) (fun h => ?_)
          · refine V_iload X dX10_findDrive_184 5 rfl ?_
            exact V_sub [2, 3, 4, 6] rfl (J186 _ _ h)
          · refine V_iload X dX10_findDrive_179 0 rfl ?_
            refine V_goto (tgt := 186) X dX10_findDrive_181 (by decide) ?_
            exact V_sub [2, 3, 4, 6] rfl (J186 _ _ h)
        have J138 : ∀ (l4 : Int) (l5 : Int) (l6 : Int) (l7 : Int), m_findDrive_j138 N g l2 l3 l4 l5 l6 l7 = some q50 → V x 10 Km 0 0 sz g 138 [(0, .ref (xb x + 0)), (2, vI l2), (3, vI l3), (4, vI l4), (5, vI l5), (6, vI l6), (7, vI l7)] [] := by
          intro l4 l5 l6 l7 h
          unfold m_findDrive_j138 at h
          refine V_iload X dX10_findDrive_138 5 rfl ?_
          exact V_sub [0, 1, 2, 3, 4, 6] rfl (J140 _ _ _ _ h)
        have J112 : ∀ (l4 : Int) (l5 : Int) (l6 : Int) (s0 : Int) (s1 : Int), m_findDrive_j112 N g l2 l3 l4 l5 l6 s0 s1 = some q50 → V x 10 Km 0 0 sz g 112 [(0, .ref (xb x + 0)), (2, vI l2), (3, vI l3), (4, vI l4), (5, vI l5), (6, vI l6)] [vI s0, vI s1] := by
          intro l4 l5 l6 s0 s1 h
          unfold m_findDrive_j112 at h
          refine V_iadd X dX10_findDrive_112 ?_
          refine V_istore X dX10_findDrive_113 (by decide) (L' := [(7, vI (s1 + s0)), (0, .ref (xb x + 0)), (2, vI l2), (3, vI l3), (4, vI l4), (5, vI l5), (6, vI l6)]) rfl ?_
          refine V_iload_n X dX10_findDrive_115 2 rfl ?_
          refine V_aload_n X dX10_findDrive_116 1 rfl ?_
          refine getX10 X (o := 0) (j := 25) rfl (by decide) q1573 (fv_1 (i := 18) rfl rfl) dX10_findDrive_117 ?_
          refine V_iconst X dX10_findDrive_120 ?_
          refine V_iald X (o := 18) (n := 5) rfl (by decide) dX10_findDrive_121 h (fun v121 h => ?_)
          refine V_irem X dX10_findDrive_122 h (fun h => ?_)
          refine V_if_ne (tgt := 138) X dX10_findDrive_123 (by decide) h (fun h => ?_) (fun h => ?_)
          · exact V_sub [1, 2, 3, 4, 5, 6, 0] rfl (J138 _ _ _ _ h)
          · refine V_iload X dX10_findDrive_126 6 rfl ?_
            refine V_if_le (tgt := 138) X dX10_findDrive_128 (by decide) h (fun h => ?_) (fun h => ?_)
            · exact V_sub [1, 2, 3, 4, 5, 6, 0] rfl (J138 _ _ _ _ h)
            · refine V_iload X dX10_findDrive_131 6 rfl ?_
              refine V_iconst X dX10_findDrive_133 ?_
              refine V_isub X dX10_findDrive_134 ?_
              refine V_goto (tgt := 140) X dX10_findDrive_135 (by decide) ?_
              exact V_sub [1, 2, 3, 4, 5, 0] rfl (J140 _ _ _ _ h)
        have J81 : ∀ (l4 : Int) (l5 : Int) (s0 : Int), m_findDrive_j81 N g l2 l3 l4 l5 s0 = some q50 → V x 10 Km 0 0 sz g 81 [(0, .ref (xb x + 0)), (2, vI l2), (3, vI l3), (4, vI l4), (5, vI l5)] [vI s0] := by
          intro l4 l5 s0 h
          unfold m_findDrive_j81 at h
          refine V_istore X dX10_findDrive_81 (by decide) (L' := [(6, vI s0), (0, .ref (xb x + 0)), (2, vI l2), (3, vI l3), (4, vI l4), (5, vI l5)]) rfl ?_
          refine V_iload X dX10_findDrive_83 0 rfl ?_
          refine V_iconst X dX10_findDrive_85 ?_
          refine V_icmp_ge (tgt := 92) X dX10_findDrive_86 (by decide) h (fun h => ?_) (fun h => ?_)
          · refine V_iconst X dX10_findDrive_92 ?_
            refine V_iload X dX10_findDrive_93 0 rfl ?_
            refine V_bipush X dX10_findDrive_95 (by decide) ?_
            refine V_icmp_ge (tgt := 111) X dX10_findDrive_97 (by decide) h (fun h => ?_) (fun h => ?_)
            · refine V_iconst X dX10_findDrive_111 ?_
              exact V_sub [1, 2, 3, 4, 5, 0] rfl (J112 _ _ _ _ _ h)
            · refine V_bipush X dX10_findDrive_100 (by decide) ?_
              refine V_iload X dX10_findDrive_102 0 rfl ?_
              refine V_isub X dX10_findDrive_104 ?_
              refine V_bipush X dX10_findDrive_105 (by decide) ?_
              refine V_idivK X dX10_findDrive_107 (by decide) ?_
              refine V_goto (tgt := 112) X dX10_findDrive_108 (by decide) ?_
              exact V_sub [1, 2, 3, 4, 5, 0] rfl (J112 _ _ _ _ _ h)
          · refine V_goto (tgt := 188) X dX10_findDrive_89 (by decide) ?_
            refine V_iinc X dX10_findDrive_188 5 rfl (by decide) (L' := [(5, vI (l5 + 1)), (6, vI s0), (0, .ref (xb x + 0)), (2, vI l2), (3, vI l3), (4, vI l4)]) rfl ?_
            refine V_goto (tgt := 50) X dX10_findDrive_191 (by decide) ?_
            exact V_sub [2, 3, 4, 5, 0] rfl (hc50 _ (Option.some.inj h).symm)
        unfold m_findDrive_b50 at h
        show V x 10 Km 0 0 sz g 50 [(0, .ref (xb x + 0)), (2, vI l2), (3, vI l3), (4, vI l4), (5, vI l5)] []
        refine V_iload X dX10_findDrive_50 4 rfl ?_
        refine V_bipush X dX10_findDrive_52 (by decide) ?_
        refine V_icmp_gt (tgt := 194) X dX10_findDrive_54 (by decide) h (fun h => ?_) (fun h => ?_)
        · exact V_sub [0, 1, 2, 3] rfl (he50 _ (Option.some.inj h).symm)
        · refine V_iload_n X dX10_findDrive_57 2 rfl ?_
          refine V_bipush X dX10_findDrive_58 (by decide) ?_
          refine V_iload X dX10_findDrive_60 4 rfl ?_
          refine V_imul X dX10_findDrive_62 ?_
          refine V_iadd X dX10_findDrive_63 ?_
          refine V_bipush X dX10_findDrive_64 (by decide) ?_
          refine V_icmp_ge (tgt := 79) X dX10_findDrive_66 (by decide) h (fun h => ?_) (fun h => ?_)
          · refine V_bipush X dX10_findDrive_79 (by decide) ?_
            exact V_sub [0, 1, 2, 3, 4] rfl (J81 _ _ _ h)
          · refine V_iload_n X dX10_findDrive_69 2 rfl ?_
            refine V_bipush X dX10_findDrive_70 (by decide) ?_
            refine V_iload X dX10_findDrive_72 4 rfl ?_
            refine V_imul X dX10_findDrive_74 ?_
            refine V_iadd X dX10_findDrive_75 ?_
            refine V_goto (tgt := 81) X dX10_findDrive_76 (by decide) ?_
            exact V_sub [0, 1, 2, 3, 4] rfl (J81 _ _ _ h)
      unfold m_findDrive_b36 at h
      show V x 10 Km 0 0 sz g 36 [(0, .ref (xb x + 0)), (2, vI l2), (3, vI l3)] []
      refine V_iload_n X dX10_findDrive_36 2 rfl ?_
      refine V_bipush X dX10_findDrive_37 (by decide) ?_
      refine V_icmp_ge (tgt := 213) X dX10_findDrive_39 (by decide) h (fun h => ?_) (fun h => ?_)
      · exact V_sub [0, 1] rfl (he36 _ (Option.some.inj h).symm)
      · refine V_ldcw X q2168 (n := 2147483647) (by decide) dX10_findDrive_42 ?_
        refine V_istore X dX10_findDrive_45 (by decide) (L' := [(4, vI 2147483647), (0, .ref (xb x + 0)), (2, vI l2), (3, vI l3)]) rfl ?_
        refine V_iconst X dX10_findDrive_47 ?_
        refine V_istore X dX10_findDrive_48 (by decide) (L' := [(5, vI 0), (4, vI 2147483647), (0, .ref (xb x + 0)), (2, vI l2), (3, vI l3)]) rfl ?_
        obtain ⟨t1, t1q, h⟩ := bind_some_eq h
        refine V_sub [2, 3, 4, 1, 0] rfl (LL50 g l3 N (2147483647, 0) _ t1q ?_)
        refine V_aload_n X dX10_findDrive_194 0 rfl ?_
        refine getX10 X (o := 0) (j := 67) rfl (by decide) q1615 (fv_1 (i := 40) rfl rfl) dX10_findDrive_195 ?_
        refine V_bipush X dX10_findDrive_198 (by decide) ?_
        refine V_iload_n X dX10_findDrive_200 1 rfl ?_
        refine V_imul X dX10_findDrive_201 ?_
        refine V_iload_n X dX10_findDrive_202 2 rfl ?_
        refine V_iadd X dX10_findDrive_203 ?_
        refine V_iload X dX10_findDrive_204 3 rfl ?_
        refine V_iast X (o := 40) (n := 3200) rfl (by decide) dX10_findDrive_206 h (fun g206 h => ?_)
        refine V_iinc X dX10_findDrive_207 2 rfl (by decide) (L' := [(3, vI (l3 + 1)), (0, .ref (xb x + 0)), (2, vI l2), (4, vI t1)]) rfl ?_
        refine V_goto (tgt := 36) X dX10_findDrive_210 (by decide) ?_
        exact V_sub [1, 2, 0] rfl (hc36 _ (Option.some.inj h).symm)
    unfold m_findDrive_b30 at h
    show V x 10 Km 0 0 sz g 30 [(0, .ref (xb x + 0)), (2, vI l2)] []
    refine V_iload_n X dX10_findDrive_30 1 rfl ?_
    refine V_if_le (tgt := 219) X dX10_findDrive_31 (by decide) h (fun h => ?_) (fun h => ?_)
    · exact V_sub [0] rfl (he30 _ (Option.some.inj h).symm)
    · refine V_iconst X dX10_findDrive_34 ?_
      refine V_istore_n X dX10_findDrive_35 (by decide) (L' := [(3, vI 0), (0, .ref (xb x + 0)), (2, vI l2)]) rfl ?_
      obtain ⟨t2, t2q, h⟩ := bind_some_eq h
      refine V_sub [1, 2, 0] rfl (LL36 l2 N (g, 0) _ t2q ?_)
      refine V_iinc X dX10_findDrive_213 1 rfl (by decide) (L' := [(2, vI (l2 + (-1))), (0, .ref (xb x + 0))]) rfl ?_
      refine V_goto (tgt := 30) X dX10_findDrive_216 (by decide) ?_
      exact V_sub [1, 0] rfl (hc30 _ (Option.some.inj h).symm)
  have LL2 : ∀ (l1 : Int) (n : Nat) (s : (GS × Int)) (e : (GS)), loopN (fun s => m_findDrive_b2 N l1 s.1 s.2) n s = some e → V x 10 Km 0 0 sz e 28 [(0, .ref (xb x + 0)), (1, vI l1)] [] → V x 10 Km 0 0 sz s.1 2 [(0, .ref (xb x + 0)), (1, vI l1), (2, vI s.2)] [] := by
    intro l1 n s e
    refine loop_walk (P := fun s => V x 10 Km 0 0 sz s.1 2 [(0, .ref (xb x + 0)), (1, vI l1), (2, vI s.2)] []) (E := fun e => V x 10 Km 0 0 sz e 28 [(0, .ref (xb x + 0)), (1, vI l1)] []) ?_ n s e
    clear e s n
    rintro ⟨g, l2⟩ q2 h hc2 he2
    replace h : m_findDrive_b2 N l1 g l2 = some q2 := h
    unfold m_findDrive_b2 at h
    show V x 10 Km 0 0 sz g 2 [(0, .ref (xb x + 0)), (1, vI l1), (2, vI l2)] []
    refine V_iload_n X dX10_findDrive_2 2 rfl ?_
    refine V_bipush X dX10_findDrive_3 (by decide) ?_
    refine V_icmp_ge (tgt := 28) X dX10_findDrive_5 (by decide) h (fun h => ?_) (fun h => ?_)
    · exact V_sub [0, 1] rfl (he2 _ (Option.some.inj h).symm)
    · refine V_aload_n X dX10_findDrive_8 0 rfl ?_
      refine getX10 X (o := 0) (j := 67) rfl (by decide) q1615 (fv_1 (i := 40) rfl rfl) dX10_findDrive_9 ?_
      refine V_bipush X dX10_findDrive_12 (by decide) ?_
      refine V_iload_n X dX10_findDrive_14 1 rfl ?_
      refine V_iconst X dX10_findDrive_15 ?_
      refine V_iadd X dX10_findDrive_16 ?_
      refine V_imul X dX10_findDrive_17 ?_
      refine V_iload_n X dX10_findDrive_18 2 rfl ?_
      refine V_iadd X dX10_findDrive_19 ?_
      refine V_iconst X dX10_findDrive_20 ?_
      refine V_iast X (o := 40) (n := 3200) rfl (by decide) dX10_findDrive_21 h (fun g21 h => ?_)
      refine V_iinc X dX10_findDrive_22 2 rfl (by decide) (L' := [(2, vI (l2 + 1)), (0, .ref (xb x + 0)), (1, vI l1)]) rfl ?_
      refine V_goto (tgt := 2) X dX10_findDrive_25 (by decide) ?_
      exact V_sub [1, 2, 0] rfl (hc2 _ (Option.some.inj h).symm)
  unfold m_findDrive at h
  show V x 10 Km 0 0 sz g 0 [(0, .ref (xb x + 0)), (1, vI l1)] []
  refine V_iconst X dX10_findDrive_0 ?_
  refine V_istore_n X dX10_findDrive_1 (by decide) (L' := [(2, vI 0), (0, .ref (xb x + 0)), (1, vI l1)]) rfl ?_
  obtain ⟨t3, t3q, h⟩ := bind_some_eq h
  refine V_sub [1, 2, 0] rfl (LL2 l1 N (g, 0) _ t3q ?_)
  refine V_iload_n X dX10_findDrive_28 1 rfl ?_
  refine V_istore_n X dX10_findDrive_29 (by decide) (L' := [(2, vI l1), (0, .ref (xb x + 0)), (1, vI l1)]) rfl ?_
  obtain ⟨t4, t4q, h⟩ := bind_some_eq h
  refine V_sub [1, 0] rfl (LL30 N (t3, l1) _ t4q ?_)
  refine V_aload_n X dX10_findDrive_219 0 rfl ?_
  refine getX10 X (o := 0) (j := 67) rfl (by decide) q1615 (fv_1 (i := 40) rfl rfl) dX10_findDrive_220 ?_
  refine V_bipush X dX10_findDrive_223 (by decide) ?_
  refine V_aload_n X dX10_findDrive_225 0 rfl ?_
  refine getX10 X (o := 0) (j := 25) rfl (by decide) q1573 (fv_1 (i := 18) rfl rfl) dX10_findDrive_226 ?_
  refine V_iconst X dX10_findDrive_229 ?_
  refine V_iald X (o := 18) (n := 5) rfl (by decide) dX10_findDrive_230 h (fun v230 h => ?_)
  refine V_iadd X dX10_findDrive_231 ?_
  refine V_iald X (o := 40) (n := 3200) rfl (by decide) dX10_findDrive_232 h (fun v232 h => ?_)
  have hr := Option.some.inj h
  subst hr
  exact V_end_i hX rfl dX10_findDrive_233
set_option maxHeartbeats 4000000 in
theorem con_m_isDrive (g : GS) (l1 : Int) (r : (Int × GS)) (h : m_isDrive g l1 = some r) : Con yX10_isDrive cX10_isDrive 2 (some .boolean) 2 35 Km (fun b => [.ref (b + 0), vI l1]) g (fun _ => some (vI r.1)) r.2 := by
  refine Con.of RX10 (by decide) rfl (fun b => Nat.le_of_ble_eq_true rfl) (fun x sz hX => ?_)
  have X := hX.1
  unfold m_isDrive at h
  show V x 2 Km 0 0 sz g 0 [(0, .ref (xb x + 0)), (1, vI l1)] []
  refine V_aload_n X dX10_isDrive_0 0 rfl ?_
  refine V_iload_n X dX10_isDrive_1 1 rfl ?_
  refine V_iconst X dX10_isDrive_2 ?_
  refine V_bipush X dX10_isDrive_3 (by decide) ?_
  obtain ⟨c5, hc5, h⟩ := bind_some_eq h
  refine V_callS (As := [vI l1, vI 1, vI 30]) (rest := [.ref (xb x + 0)]) (s1 := [vI c5, .ref (xb x + 0)]) X (con_m_within g l1 1 30 c5 hc5) gwX10_within hdX10_within (by decide) rfl rfl (Nat.le_of_ble_eq_true rfl) ⟨Nat.zero_le _, Nat.zero_le _⟩ dX10_isDrive_5 rfl rfl ?_
  refine V_iconst X dX10_isDrive_8 ?_
  refine V_iconst X dX10_isDrive_9 ?_
  obtain ⟨c10, hc10, h⟩ := bind_some_eq h
  refine V_callV (As := [vI c5, vI 1, vI 1]) (rest := []) (s1 := [vI c10.1]) (o := 0) X (con_m_may g c5 1 1 c10 hc10) gwX10_may hdX10_may (by decide) rfl (by decide) rfl rfl rfl (Nat.le_of_ble_eq_true rfl) ⟨Nat.zero_le _, Nat.zero_le _⟩ dX10_isDrive_10 rfl rfl ?_
  obtain ⟨h01, h⟩ := rtZ_some h
  have hr := Option.some.inj h
  subst hr
  exact V_end_z hX h01 rfl dX10_isDrive_13
set_option maxHeartbeats 4000000 in
theorem con_m_drive (N : Nat) (g : GS) (l1 : Int) (r : (Int × GS)) (h : m_drive N g l1 = some r) : Con yX10_drive cX10_drive 2 (some .int) 3 56 Km (fun b => [.ref (b + 0), vI l1]) g (fun _ => some (vI r.1)) r.2 := by
  refine Con.of RX10 (by decide) rfl (fun b => Nat.le_of_ble_eq_true rfl) (fun x sz hX => ?_)
  have X := hX.1
  unfold m_drive at h
  show V x 2 Km 0 0 sz g 0 [(0, .ref (xb x + 0)), (1, vI l1)] []
  refine V_aload_n X dX10_drive_0 0 rfl ?_
  refine V_iconst X dX10_drive_1 ?_
  refine putX10 X (o := 0) (j := 0) (a := 0) rfl (by decide) rfl rfl rfl q1548 dX10_drive_2 ?_
  refine V_aload_n X dX10_drive_5 0 rfl ?_
  refine V_iload_n X dX10_drive_6 1 rfl ?_
  obtain ⟨c7, hc7, h⟩ := bind_some_eq h
  refine V_callV (As := [vI l1]) (rest := []) (s1 := [vI c7.1]) (o := 0) X (con_m_isDrive (sI g 900 0 0) l1 c7 hc7) gwX10_isDrive hdX10_isDrive (by decide) rfl (by decide) rfl rfl rfl (Nat.le_of_ble_eq_true rfl) ⟨Nat.zero_le _, Nat.zero_le _⟩ dX10_drive_7 rfl rfl ?_
  refine V_if_ne (tgt := 15) X dX10_drive_10 (by decide) h (fun h => ?_) (fun h => ?_)
  · refine V_aload_n X dX10_drive_15 0 rfl ?_
    refine V_iload_n X dX10_drive_16 1 rfl ?_
    obtain ⟨c17, hc17, h⟩ := bind_some_eq h
    refine V_callV (As := [vI l1]) (rest := []) (s1 := [vI c17.1]) (o := 0) X (con_m_findDrive N c7.2 l1 c17 hc17) gwX10_findDrive hdX10_findDrive (by decide) rfl (by decide) rfl rfl rfl (Nat.le_of_ble_eq_true rfl) ⟨Nat.zero_le _, Nat.zero_le _⟩ dX10_drive_17 rfl rfl ?_
    refine V_sipush X dX10_drive_20 (by decide) ?_
    refine V_idivK X dX10_drive_23 (by decide) ?_
    have hr := Option.some.inj h
    subst hr
    exact V_end_i hX rfl dX10_drive_24
  · refine V_iconst X dX10_drive_13 ?_
    have hr := Option.some.inj h
    subst hr
    exact V_end_i hX rfl dX10_drive_14
set_option maxHeartbeats 4000000 in
theorem con_m_pumps (N : Nat) (g : GS) (l1 : Int) (r : (Int × GS)) (h : m_pumps N g l1 = some r) : Con yX10_pumps cX10_pumps 2 (some .int) 3 56 Km (fun b => [.ref (b + 0), vI l1]) g (fun _ => some (vI r.1)) r.2 := by
  refine Con.of RX10 (by decide) rfl (fun b => Nat.le_of_ble_eq_true rfl) (fun x sz hX => ?_)
  have X := hX.1
  unfold m_pumps at h
  show V x 2 Km 0 0 sz g 0 [(0, .ref (xb x + 0)), (1, vI l1)] []
  refine V_aload_n X dX10_pumps_0 0 rfl ?_
  refine V_iconst X dX10_pumps_1 ?_
  refine putX10 X (o := 0) (j := 0) (a := 0) rfl (by decide) rfl rfl rfl q1548 dX10_pumps_2 ?_
  refine V_aload_n X dX10_pumps_5 0 rfl ?_
  refine V_iload_n X dX10_pumps_6 1 rfl ?_
  obtain ⟨c7, hc7, h⟩ := bind_some_eq h
  refine V_callV (As := [vI l1]) (rest := []) (s1 := [vI c7.1]) (o := 0) X (con_m_isDrive (sI g 900 0 0) l1 c7 hc7) gwX10_isDrive hdX10_isDrive (by decide) rfl (by decide) rfl rfl rfl (Nat.le_of_ble_eq_true rfl) ⟨Nat.zero_le _, Nat.zero_le _⟩ dX10_pumps_7 rfl rfl ?_
  refine V_if_ne (tgt := 15) X dX10_pumps_10 (by decide) h (fun h => ?_) (fun h => ?_)
  · refine V_aload_n X dX10_pumps_15 0 rfl ?_
    refine V_iload_n X dX10_pumps_16 1 rfl ?_
    obtain ⟨c17, hc17, h⟩ := bind_some_eq h
    refine V_callV (As := [vI l1]) (rest := []) (s1 := [vI c17.1]) (o := 0) X (con_m_findDrive N c7.2 l1 c17 hc17) gwX10_findDrive hdX10_findDrive (by decide) rfl (by decide) rfl rfl rfl (Nat.le_of_ble_eq_true rfl) ⟨Nat.zero_le _, Nat.zero_le _⟩ dX10_pumps_17 rfl rfl ?_
    refine V_sipush X dX10_pumps_20 (by decide) ?_
    refine V_iremK X dX10_pumps_23 (by decide) ?_
    have hr := Option.some.inj h
    subst hr
    exact V_end_i hX rfl dX10_pumps_24
  · refine V_iconst X dX10_pumps_13 ?_
    have hr := Option.some.inj h
    subst hr
    exact V_end_i hX rfl dX10_pumps_14
set_option maxHeartbeats 4000000 in
theorem con_m_weightOf (N : Nat) (g : GS) (l1 : Int) (l2 : Int) (l3 : Int) (r : Int) (h : m_weightOf N g l1 l2 l3 = some r) : Con yX10_weightOf cX10_weightOf 8 (some .long) 1 12 Km (fun b => [.ref (b + 0), vI l1, vI l2, vI l3]) g (fun _ => some (vL r)) g := by
  refine Con.of RX10 (by decide) rfl (fun b => Nat.le_of_ble_eq_true rfl) (fun x sz hX => ?_)
  have X := hX.1
  have LL14 : ∀ (l1 : Int) (l2 : Int) (l3 : Int) (n : Nat) (s : (Int × Int)) (e : Int), loopN (fun s => m_weightOf_b14 N g l1 l2 l3 s.1 s.2) n s = some e → (e = r) → V x 8 Km 0 0 sz g 14 [(0, .ref (xb x + 0)), (1, vI l1), (2, vI l2), (3, vI l3), (4, vL s.1), (6, vI s.2)] [] := by
    intro l1 l2 l3 n s e
    refine loop_walk (P := fun s => V x 8 Km 0 0 sz g 14 [(0, .ref (xb x + 0)), (1, vI l1), (2, vI l2), (3, vI l3), (4, vL s.1), (6, vI s.2)] []) (E := fun e => e = r) ?_ n s e
    clear e s n
    rintro ⟨l4, l6⟩ q14 h hc14 he14
    replace h : m_weightOf_b14 N g l1 l2 l3 l4 l6 = some q14 := h
    have J90 : ∀ (l6 : Int) (s0 : Int) (s1 : Int), m_weightOf_j90 N g l1 l2 l3 l6 s0 s1 = some q14 → V x 8 Km 0 0 sz g 90 [(0, .ref (xb x + 0)), (1, vI l1), (2, vI l2), (3, vI l3), (6, vI l6)] [vL s0, vL s1] := by
      intro l6 s0 s1 h
      unfold m_weightOf_j90 at h
      refine V_lmul X dX10_weightOf_90 ?_
      refine V_lstore X dX10_weightOf_91 (by decide) (L' := [(4, vL (s1 * s0)), (0, .ref (xb x + 0)), (1, vI l1), (2, vI l2), (3, vI l3), (6, vI l6)]) rfl ?_
      refine V_iinc X dX10_weightOf_93 5 rfl (by decide) (L' := [(6, vI (l6 + 1)), (4, vL (s1 * s0)), (0, .ref (xb x + 0)), (1, vI l1), (2, vI l2), (3, vI l3)]) rfl ?_
      refine V_goto (tgt := 14) X dX10_weightOf_96 (by decide) ?_
      exact V_sub [2, 3, 4, 5, 1, 0] rfl (hc14 _ (Option.some.inj h).symm)
    have J37 : ∀ (l4 : Int) (l6 : Int) (s0 : Int), m_weightOf_j37 N g l1 l2 l3 l4 l6 s0 = some q14 → V x 8 Km 0 0 sz g 37 [(0, .ref (xb x + 0)), (1, vI l1), (2, vI l2), (3, vI l3), (4, vL l4), (6, vI l6)] [vI s0] := by
      intro l4 l6 s0 h
      unfold m_weightOf_j37 at h
      refine V_istore X dX10_weightOf_37 (by decide) (L' := [(7, vI s0), (0, .ref (xb x + 0)), (1, vI l1), (2, vI l2), (3, vI l3), (4, vL l4), (6, vI l6)]) rfl ?_
      refine V_iload X dX10_weightOf_39 0 rfl ?_
      refine V_iconst X dX10_weightOf_41 ?_
      refine V_icmp_ne (tgt := 48) X dX10_weightOf_42 (by decide) h (fun h => ?_) (fun h => ?_)
      · refine V_lload X dX10_weightOf_48 5 rfl ?_
        refine V_iload X dX10_weightOf_50 0 rfl ?_
        refine V_iconst X dX10_weightOf_52 ?_
        refine V_icmp_ne (tgt := 73) X dX10_weightOf_53 (by decide) h (fun h => ?_) (fun h => ?_)
        · refine V_bipush X dX10_weightOf_73 (by decide) ?_
          refine V_aload_n X dX10_weightOf_75 1 rfl ?_
          refine getX10 X (o := 0) (j := 21) rfl (by decide) q1569 (fv_1 (i := 14) rfl rfl) dX10_weightOf_76 ?_
          refine V_iconst X dX10_weightOf_79 ?_
          refine V_iload_n X dX10_weightOf_80 2 rfl ?_
          refine V_imul X dX10_weightOf_81 ?_
          refine V_iconst X dX10_weightOf_82 ?_
          refine V_iadd X dX10_weightOf_83 ?_
          refine V_iload X dX10_weightOf_84 6 rfl ?_
          refine V_iadd X dX10_weightOf_86 ?_
          refine V_iald X (o := 14) (n := 16) rfl (by decide) dX10_weightOf_87 h (fun v87 h => ?_)
          refine V_isub X dX10_weightOf_88 ?_
          refine V_i2l X dX10_weightOf_89 ?_
          exact V_sub [1, 2, 3, 4, 6] rfl (J90 _ _ _ h)
        · refine V_aload_n X dX10_weightOf_56 1 rfl ?_
          refine getX10 X (o := 0) (j := 21) rfl (by decide) q1569 (fv_1 (i := 14) rfl rfl) dX10_weightOf_57 ?_
          refine V_iconst X dX10_weightOf_60 ?_
          refine V_iload_n X dX10_weightOf_61 2 rfl ?_
          refine V_imul X dX10_weightOf_62 ?_
          refine V_iconst X dX10_weightOf_63 ?_
          refine V_iadd X dX10_weightOf_64 ?_
          refine V_iload X dX10_weightOf_65 6 rfl ?_
          refine V_iadd X dX10_weightOf_67 ?_
          refine V_iald X (o := 14) (n := 16) rfl (by decide) dX10_weightOf_68 h (fun v68 h => ?_)
          refine V_i2l X dX10_weightOf_69 ?_
          refine V_goto (tgt := 90) X dX10_weightOf_70 (by decide) ?_
          exact V_sub [1, 2, 3, 4, 6] rfl (J90 _ _ _ h)
      · refine V_goto (tgt := 93) X dX10_weightOf_45 (by decide) ?_
        refine V_iinc X dX10_weightOf_93 6 rfl (by decide) (L' := [(6, vI (l6 + 1)), (7, vI s0), (0, .ref (xb x + 0)), (1, vI l1), (2, vI l2), (3, vI l3), (4, vL l4)]) rfl ?_
        refine V_goto (tgt := 14) X dX10_weightOf_96 (by decide) ?_
        exact V_sub [2, 3, 4, 5, 6, 0] rfl (hc14 _ (Option.some.inj h).symm)
    unfold m_weightOf_b14 at h
    show V x 8 Km 0 0 sz g 14 [(0, .ref (xb x + 0)), (1, vI l1), (2, vI l2), (3, vI l3), (4, vL l4), (6, vI l6)] []
    refine V_iload X dX10_weightOf_14 5 rfl ?_
    refine V_iconst X dX10_weightOf_16 ?_
    refine V_icmp_ge (tgt := 99) X dX10_weightOf_17 (by decide) h (fun h => ?_) (fun h => ?_)
    · obtain ⟨e1, h, e1q⟩ := outR_some h
      replace h := h.trans (congrArg some (he14 _ e1q))
      refine V_lload X dX10_weightOf_99 4 rfl ?_
      have hr := Option.some.inj h
      subst hr
      exact V_end_l hX rfl dX10_weightOf_101
    · refine V_iload X dX10_weightOf_20 5 rfl ?_
      refine V_iload_n X dX10_weightOf_22 2 rfl ?_
      refine V_icmp_ne (tgt := 30) X dX10_weightOf_23 (by decide) h (fun h => ?_) (fun h => ?_)
      · refine V_aload_n X dX10_weightOf_30 0 rfl ?_
        refine getX10 X (o := 0) (j := 48) rfl (by decide) q1596 (fv_1 (i := 28) rfl rfl) dX10_weightOf_31 ?_
        refine V_iload X dX10_weightOf_34 5 rfl ?_
        refine V_iald X (o := 28) (n := 3) rfl (by decide) dX10_weightOf_36 h (fun v36 h => ?_)
        exact V_sub [0, 1, 2, 3, 4, 5] rfl (J37 _ _ _ h)
      · refine V_iload_n X dX10_weightOf_26 3 rfl ?_
        refine V_goto (tgt := 37) X dX10_weightOf_27 (by decide) ?_
        exact V_sub [0, 1, 2, 3, 4, 5] rfl (J37 _ _ _ h)
  unfold m_weightOf at h
  show V x 8 Km 0 0 sz g 0 [(0, .ref (xb x + 0)), (1, vI l1), (2, vI l2), (3, vI l3)] []
  refine V_aload_n X dX10_weightOf_0 0 rfl ?_
  refine getX10 X (o := 0) (j := 21) rfl (by decide) q1569 (fv_1 (i := 14) rfl rfl) dX10_weightOf_1 ?_
  refine V_iconst X dX10_weightOf_4 ?_
  refine V_iload_n X dX10_weightOf_5 1 rfl ?_
  refine V_imul X dX10_weightOf_6 ?_
  refine V_iald X (o := 14) (n := 16) rfl (by decide) dX10_weightOf_7 h (fun v7 h => ?_)
  refine V_i2l X dX10_weightOf_8 ?_
  refine V_lstore X dX10_weightOf_9 (by decide) (L' := [(4, vL (w32 v7)), (0, .ref (xb x + 0)), (1, vI l1), (2, vI l2), (3, vI l3)]) rfl ?_
  refine V_iconst X dX10_weightOf_11 ?_
  refine V_istore X dX10_weightOf_12 (by decide) (L' := [(6, vI 0), (4, vL (w32 v7)), (0, .ref (xb x + 0)), (1, vI l1), (2, vI l2), (3, vI l3)]) rfl ?_
  exact V_sub [2, 3, 4, 5, 1, 0] rfl (LL14 l1 l2 l3 N ((w32 v7), 0) _ h rfl)
set_option maxHeartbeats 4000000 in
theorem con_m_odds (N : Nat) (g : GS) (l1 : Int) (l2 : Int) (r : (Int × GS)) (h : m_odds N g l1 l2 = some r) : Con yX10_odds cX10_odds 6 (some .long) 2 42 Km (fun b => [.ref (b + 0), vI l1, vI l2]) g (fun _ => some (vL r.1)) r.2 := by
  refine Con.of RX10 (by decide) rfl (fun b => Nat.le_of_ble_eq_true rfl) (fun x sz hX => ?_)
  have X := hX.1
  have LL47 : ∀ (g : GS) (l1 : Int) (l2 : Int) (n : Nat) (s : (Int × Int)) (e : (Int)), loopN (fun s => m_odds_b47 N g l1 l2 s.1 s.2) n s = some e → V x 6 Km 0 0 sz g 73 [(0, .ref (xb x + 0)), (1, vI l1), (2, vI l2), (3, vL e)] [] → V x 6 Km 0 0 sz g 47 [(0, .ref (xb x + 0)), (1, vI l1), (2, vI l2), (3, vL s.1), (5, vI s.2)] [] := by
    intro g l1 l2 n s e
    refine loop_walk (P := fun s => V x 6 Km 0 0 sz g 47 [(0, .ref (xb x + 0)), (1, vI l1), (2, vI l2), (3, vL s.1), (5, vI s.2)] []) (E := fun e => V x 6 Km 0 0 sz g 73 [(0, .ref (xb x + 0)), (1, vI l1), (2, vI l2), (3, vL e)] []) ?_ n s e
    clear e s n
    rintro ⟨l3, l5⟩ q47 h hc47 he47
    replace h : m_odds_b47 N g l1 l2 l3 l5 = some q47 := h
    unfold m_odds_b47 at h
    show V x 6 Km 0 0 sz g 47 [(0, .ref (xb x + 0)), (1, vI l1), (2, vI l2), (3, vL l3), (5, vI l5)] []
    refine V_iload X dX10_odds_47 4 rfl ?_
    refine V_aload_n X dX10_odds_49 0 rfl ?_
    refine getX10 X (o := 0) (j := 36) rfl (by decide) q1584 (fv_0 rfl) dX10_odds_50 ?_
    refine V_icmp_ge (tgt := 73) X dX10_odds_53 (by decide) h (fun h => ?_) (fun h => ?_)
    · exact V_sub [0, 1, 2, 3] rfl (he47 _ (Option.some.inj h).symm)
    · refine V_lload_n X dX10_odds_56 3 rfl ?_
      refine V_aload_n X dX10_odds_57 0 rfl ?_
      refine V_iload X dX10_odds_58 4 rfl ?_
      refine V_iconst X dX10_odds_60 ?_
      refine V_iconst X dX10_odds_61 ?_
      obtain ⟨c62, hc62, h⟩ := bind_some_eq h
      refine V_callV (As := [vI l5, vI (-1), vI 0]) (rest := [vL l3]) (s1 := [vL c62, vL l3]) (o := 0) X (con_m_weightOf N g l5 (-1) 0 c62 hc62) gwX10_weightOf hdX10_weightOf (by decide) rfl (by decide) rfl rfl rfl (Nat.le_of_ble_eq_true rfl) ⟨Nat.zero_le _, Nat.zero_le _⟩ dX10_odds_62 rfl rfl ?_
      refine V_ladd X dX10_odds_65 ?_
      refine V_lstore_n X dX10_odds_66 (by decide) (L' := [(3, vL (l3 + c62)), (0, .ref (xb x + 0)), (1, vI l1), (2, vI l2), (5, vI l5)]) rfl ?_
      refine V_iinc X dX10_odds_67 4 rfl (by decide) (L' := [(5, vI (l5 + 1)), (3, vL (l3 + c62)), (0, .ref (xb x + 0)), (1, vI l1), (2, vI l2)]) rfl ?_
      refine V_goto (tgt := 47) X dX10_odds_70 (by decide) ?_
      exact V_sub [2, 3, 4, 1, 0] rfl (hc47 _ (Option.some.inj h).symm)
  have J40 : ∀ (g : GS), m_odds_j40 N g = some r → V x 6 Km 0 0 sz g 40 [] [] := by
    intro g h
    unfold m_odds_j40 at h
    refine V_lconst X (a := 0) dX10_odds_40 (by decide) ?_
    have hr := Option.some.inj h
    subst hr
    exact V_end_l hX rfl dX10_odds_41
  unfold m_odds at h
  show V x 6 Km 0 0 sz g 0 [(0, .ref (xb x + 0)), (1, vI l1), (2, vI l2)] []
  refine V_aload_n X dX10_odds_0 0 rfl ?_
  refine V_iconst X dX10_odds_1 ?_
  refine putX10 X (o := 0) (j := 0) (a := 0) rfl (by decide) rfl rfl rfl q1548 dX10_odds_2 ?_
  refine V_aload_n X dX10_odds_5 0 rfl ?_
  refine V_iload_n X dX10_odds_6 1 rfl ?_
  refine V_iconst X dX10_odds_7 ?_
  refine V_aload_n X dX10_odds_8 0 rfl ?_
  refine getX10 X (o := 0) (j := 36) rfl (by decide) q1584 (fv_0 rfl) dX10_odds_9 ?_
  refine V_iconst X dX10_odds_12 ?_
  refine V_isub X dX10_odds_13 ?_
  obtain ⟨c14, hc14, h⟩ := bind_some_eq h
  refine V_callS (As := [vI l1, vI 0, vI ((gI (sI g 900 0 0) 936 0) - 1)]) (rest := [.ref (xb x + 0)]) (s1 := [vI c14, .ref (xb x + 0)]) X (con_m_within (sI g 900 0 0) l1 0 ((gI (sI g 900 0 0) 936 0) - 1) c14 hc14) gwX10_within hdX10_within (by decide) rfl rfl (Nat.le_of_ble_eq_true rfl) ⟨Nat.zero_le _, Nat.zero_le _⟩ dX10_odds_14 rfl rfl ?_
  refine V_iconst X dX10_odds_17 ?_
  refine V_iconst X dX10_odds_18 ?_
  obtain ⟨c19, hc19, h⟩ := bind_some_eq h
  refine V_callV (As := [vI c14, vI 1, vI 0]) (rest := []) (s1 := [vI c19.1]) (o := 0) X (con_m_may (sI g 900 0 0) c14 1 0 c19 hc19) gwX10_may hdX10_may (by decide) rfl (by decide) rfl rfl rfl (Nat.le_of_ble_eq_true rfl) ⟨Nat.zero_le _, Nat.zero_le _⟩ dX10_odds_19 rfl rfl ?_
  refine V_if_eq (tgt := 40) X dX10_odds_22 (by decide) h (fun h => ?_) (fun h => ?_)
  · exact V_sub [] rfl (J40 _ h)
  · refine V_aload_n X dX10_odds_25 0 rfl ?_
    refine V_iload_n X dX10_odds_26 2 rfl ?_
    refine V_iconst X dX10_odds_27 ?_
    refine V_iconst X dX10_odds_28 ?_
    obtain ⟨c29, hc29, h⟩ := bind_some_eq h
    refine V_callS (As := [vI l2, vI 0, vI 1]) (rest := [.ref (xb x + 0)]) (s1 := [vI c29, .ref (xb x + 0)]) X (con_m_within c19.2 l2 0 1 c29 hc29) gwX10_within hdX10_within (by decide) rfl rfl (Nat.le_of_ble_eq_true rfl) ⟨Nat.zero_le _, Nat.zero_le _⟩ dX10_odds_29 rfl rfl ?_
    refine V_iconst X dX10_odds_32 ?_
    refine V_iconst X dX10_odds_33 ?_
    obtain ⟨c34, hc34, h⟩ := bind_some_eq h
    refine V_callV (As := [vI c29, vI 2, vI 1]) (rest := []) (s1 := [vI c34.1]) (o := 0) X (con_m_may c19.2 c29 2 1 c34 hc34) gwX10_may hdX10_may (by decide) rfl (by decide) rfl rfl rfl (Nat.le_of_ble_eq_true rfl) ⟨Nat.zero_le _, Nat.zero_le _⟩ dX10_odds_34 rfl rfl ?_
    refine V_if_ne (tgt := 42) X dX10_odds_37 (by decide) h (fun h => ?_) (fun h => ?_)
    · refine V_lconst X (a := 0) dX10_odds_42 (by decide) ?_
      refine V_lstore_n X dX10_odds_43 (by decide) (L' := [(3, vL 0), (0, .ref (xb x + 0)), (1, vI l1), (2, vI l2)]) rfl ?_
      refine V_iconst X dX10_odds_44 ?_
      refine V_istore X dX10_odds_45 (by decide) (L' := [(5, vI 0), (3, vL 0), (0, .ref (xb x + 0)), (1, vI l1), (2, vI l2)]) rfl ?_
      obtain ⟨t1, t1q, h⟩ := bind_some_eq h
      refine V_sub [2, 3, 4, 1, 0] rfl (LL47 c34.2 l1 l2 N (0, 0) _ t1q ?_)
      refine V_lload_n X dX10_odds_73 3 rfl ?_
      refine V_lconst X (a := 0) dX10_odds_74 (by decide) ?_
      refine V_lcmp X dX10_odds_75 ?_
      refine V_if_ne (tgt := 84) X dX10_odds_76 (by decide) h (fun h => ?_) (fun h => ?_)
      · refine V_aload_n X dX10_odds_84 0 rfl ?_
        refine V_iload_n X dX10_odds_85 1 rfl ?_
        refine V_iconst X dX10_odds_86 ?_
        refine V_iconst X dX10_odds_87 ?_
        obtain ⟨c88, hc88, h⟩ := bind_some_eq h
        refine V_callV (As := [vI l1, vI (-1), vI 0]) (rest := []) (s1 := [vL c88]) (o := 0) X (con_m_weightOf N c34.2 l1 (-1) 0 c88 hc88) gwX10_weightOf hdX10_weightOf (by decide) rfl (by decide) rfl rfl rfl (Nat.le_of_ble_eq_true rfl) ⟨Nat.zero_le _, Nat.zero_le _⟩ dX10_odds_88 rfl rfl ?_
        refine V_lload_n X dX10_odds_91 3 rfl ?_
        refine V_iload_n X dX10_odds_92 2 rfl ?_
        obtain ⟨c93, hc93, h⟩ := bind_some_eq h
        refine V_callS (As := [vL c88, vL t1, vI l2]) (rest := []) (s1 := [vL c93]) X (con_m_least N c34.2 c88 t1 l2 c93 hc93) gwX10_least hdX10_least (by decide) rfl rfl (Nat.le_of_ble_eq_true rfl) ⟨Nat.zero_le _, Nat.zero_le _⟩ dX10_odds_93 rfl rfl ?_
        have hr := Option.some.inj h
        subst hr
        exact V_end_l hX rfl dX10_odds_96
      · refine V_iload_n X dX10_odds_79 2 rfl ?_
        refine V_i2l X dX10_odds_80 ?_
        refine V_goto (tgt := 96) X dX10_odds_81 (by decide) ?_
        have hr := Option.some.inj h
        subst hr
        exact V_end_l hX rfl dX10_odds_96
    · exact V_sub [] rfl (J40 _ h)
set_option maxHeartbeats 4000000 in
theorem con_m_mostBy (N : Nat) (g : GS) (l1 : Int) (l2 : Int) (r : Int) (h : m_mostBy N g l1 l2 = some r) : Con yX10_mostBy cX10_mostBy 6 (some .long) 2 39 Km (fun b => [.ref (b + 0), vI l1, vI l2]) g (fun _ => some (vL r)) g := by
  refine Con.of RX10 (by decide) rfl (fun b => Nat.le_of_ble_eq_true rfl) (fun x sz hX => ?_)
  have X := hX.1
  have LL5 : ∀ (l1 : Int) (l2 : Int) (n : Nat) (s : (Int × Int)) (e : Int), loopN (fun s => m_mostBy_b5 N g l1 l2 s.1 s.2) n s = some e → (e = r) → V x 6 Km 0 0 sz g 5 [(0, .ref (xb x + 0)), (1, vI l1), (2, vI l2), (3, vL s.1), (5, vI s.2)] [] := by
    intro l1 l2 n s e
    refine loop_walk (P := fun s => V x 6 Km 0 0 sz g 5 [(0, .ref (xb x + 0)), (1, vI l1), (2, vI l2), (3, vL s.1), (5, vI s.2)] []) (E := fun e => e = r) ?_ n s e
    clear e s n
    rintro ⟨l3, l5⟩ q5 h hc5 he5
    replace h : m_mostBy_b5 N g l1 l2 l3 l5 = some q5 := h
    have J39 : ∀ (l5 : Int) (s0 : Int), m_mostBy_j39 N g l1 l2 l5 s0 = some q5 → V x 6 Km 0 0 sz g 39 [(0, .ref (xb x + 0)), (1, vI l1), (2, vI l2), (5, vI l5)] [vL s0] := by
      intro l5 s0 h
      unfold m_mostBy_j39 at h
      refine V_lstore_n X dX10_mostBy_39 (by decide) (L' := [(3, vL s0), (0, .ref (xb x + 0)), (1, vI l1), (2, vI l2), (5, vI l5)]) rfl ?_
      refine V_iinc X dX10_mostBy_40 4 rfl (by decide) (L' := [(5, vI (l5 + 1)), (3, vL s0), (0, .ref (xb x + 0)), (1, vI l1), (2, vI l2)]) rfl ?_
      refine V_goto (tgt := 5) X dX10_mostBy_43 (by decide) ?_
      exact V_sub [2, 3, 4, 1, 0] rfl (hc5 _ (Option.some.inj h).symm)
    unfold m_mostBy_b5 at h
    show V x 6 Km 0 0 sz g 5 [(0, .ref (xb x + 0)), (1, vI l1), (2, vI l2), (3, vL l3), (5, vI l5)] []
    refine V_iload X dX10_mostBy_5 4 rfl ?_
    refine V_aload_n X dX10_mostBy_7 0 rfl ?_
    refine getX10 X (o := 0) (j := 36) rfl (by decide) q1584 (fv_0 rfl) dX10_mostBy_8 ?_
    refine V_icmp_ge (tgt := 46) X dX10_mostBy_11 (by decide) h (fun h => ?_) (fun h => ?_)
    · obtain ⟨e1, h, e1q⟩ := outR_some h
      replace h := h.trans (congrArg some (he5 _ e1q))
      refine V_lload_n X dX10_mostBy_46 3 rfl ?_
      have hr := Option.some.inj h
      subst hr
      exact V_end_l hX rfl dX10_mostBy_47
    · refine V_aload_n X dX10_mostBy_14 0 rfl ?_
      refine V_iload X dX10_mostBy_15 4 rfl ?_
      refine V_iload_n X dX10_mostBy_17 1 rfl ?_
      refine V_iload_n X dX10_mostBy_18 2 rfl ?_
      obtain ⟨c19, hc19, h⟩ := bind_some_eq h
      refine V_callV (As := [vI l5, vI l1, vI l2]) (rest := []) (s1 := [vL c19]) (o := 0) X (con_m_weightOf N g l5 l1 l2 c19 hc19) gwX10_weightOf hdX10_weightOf (by decide) rfl (by decide) rfl rfl rfl (Nat.le_of_ble_eq_true rfl) ⟨Nat.zero_le _, Nat.zero_le _⟩ dX10_mostBy_19 rfl rfl ?_
      refine V_lload_n X dX10_mostBy_22 3 rfl ?_
      refine V_lcmp X dX10_mostBy_23 ?_
      refine V_if_le (tgt := 38) X dX10_mostBy_24 (by decide) h (fun h => ?_) (fun h => ?_)
      · refine V_lload_n X dX10_mostBy_38 3 rfl ?_
        exact V_sub [0, 1, 2, 4] rfl (J39 _ _ h)
      · refine V_aload_n X dX10_mostBy_27 0 rfl ?_
        refine V_iload X dX10_mostBy_28 4 rfl ?_
        refine V_iload_n X dX10_mostBy_30 1 rfl ?_
        refine V_iload_n X dX10_mostBy_31 2 rfl ?_
        obtain ⟨c32, hc32, h⟩ := bind_some_eq h
        refine V_callV (As := [vI l5, vI l1, vI l2]) (rest := []) (s1 := [vL c32]) (o := 0) X (con_m_weightOf N g l5 l1 l2 c32 hc32) gwX10_weightOf hdX10_weightOf (by decide) rfl (by decide) rfl rfl rfl (Nat.le_of_ble_eq_true rfl) ⟨Nat.zero_le _, Nat.zero_le _⟩ dX10_mostBy_32 rfl rfl ?_
        refine V_goto (tgt := 39) X dX10_mostBy_35 (by decide) ?_
        exact V_sub [0, 1, 2, 4] rfl (J39 _ _ h)
  unfold m_mostBy at h
  show V x 6 Km 0 0 sz g 0 [(0, .ref (xb x + 0)), (1, vI l1), (2, vI l2)] []
  refine V_lconst X (a := 0) dX10_mostBy_0 (by decide) ?_
  refine V_lstore_n X dX10_mostBy_1 (by decide) (L' := [(3, vL 0), (0, .ref (xb x + 0)), (1, vI l1), (2, vI l2)]) rfl ?_
  refine V_iconst X dX10_mostBy_2 ?_
  refine V_istore X dX10_mostBy_3 (by decide) (L' := [(5, vI 0), (3, vL 0), (0, .ref (xb x + 0)), (1, vI l1), (2, vI l2)]) rfl ?_
  exact V_sub [2, 3, 4, 1, 0] rfl (LL5 l1 l2 N (0, 0) _ h rfl)
set_option maxHeartbeats 4000000 in
theorem con_m_likeliest (N : Nat) (g : GS) (r : (Int × GS)) (h : m_likeliest N g = some r) : Con yX10_likeliest cX10_likeliest 4 (some .int) 3 64 Km (fun b => [.ref (b + 0)]) g (fun _ => some (vI r.1)) r.2 := by
  refine Con.of RX10 (by decide) rfl (fun b => Nat.le_of_ble_eq_true rfl) (fun x sz hX => ?_)
  have X := hX.1
  have LL14 : ∀ (g : GS) (l1 : Int) (n : Nat) (s : (Int)) (e : (Int × GS)), loopN (fun s => m_likeliest_b14 N g l1 s) n s = some e → (e = r) → V x 4 Km 0 0 sz g 14 [(0, .ref (xb x + 0)), (1, vL l1), (3, vI s)] [] := by
    intro g l1 n s e
    refine loop_walk (P := fun s => V x 4 Km 0 0 sz g 14 [(0, .ref (xb x + 0)), (1, vL l1), (3, vI s)] []) (E := fun e => e = r) ?_ n s e
    clear e s n
    rintro l3 q14 h hc14 he14
    replace h : m_likeliest_b14 N g l1 l3 = some q14 := h
    unfold m_likeliest_b14 at h
    show V x 4 Km 0 0 sz g 14 [(0, .ref (xb x + 0)), (1, vL l1), (3, vI l3)] []
    refine V_iload_n X dX10_likeliest_14 2 rfl ?_
    refine V_aload_n X dX10_likeliest_15 0 rfl ?_
    refine getX10 X (o := 0) (j := 36) rfl (by decide) q1584 (fv_0 rfl) dX10_likeliest_16 ?_
    refine V_icmp_ge (tgt := 48) X dX10_likeliest_19 (by decide) h (fun h => ?_) (fun h => ?_)
    · obtain ⟨e1, h, e1q⟩ := outR_some h
      replace h := h.trans (congrArg some (he14 _ e1q))
      refine V_iconst X dX10_likeliest_48 ?_
      have hr := Option.some.inj h
      subst hr
      exact V_end_i hX rfl dX10_likeliest_49
    · refine V_lload_n X dX10_likeliest_22 1 rfl ?_
      refine V_lconst X (a := 0) dX10_likeliest_23 (by decide) ?_
      refine V_lcmp X dX10_likeliest_24 ?_
      refine V_if_le (tgt := 42) X dX10_likeliest_25 (by decide) h (fun h => ?_) (fun h => ?_)
      · refine V_iinc X dX10_likeliest_42 2 rfl (by decide) (L' := [(3, vI (l3 + 1)), (0, .ref (xb x + 0)), (1, vL l1)]) rfl ?_
        refine V_goto (tgt := 14) X dX10_likeliest_45 (by decide) ?_
        exact V_sub [1, 2, 0] rfl (hc14 _ (Option.some.inj h).symm)
      · refine V_aload_n X dX10_likeliest_28 0 rfl ?_
        refine V_iload_n X dX10_likeliest_29 2 rfl ?_
        refine V_iconst X dX10_likeliest_30 ?_
        refine V_iconst X dX10_likeliest_31 ?_
        obtain ⟨c32, hc32, h⟩ := bind_some_eq h
        refine V_callV (As := [vI l3, vI (-1), vI 0]) (rest := []) (s1 := [vL c32]) (o := 0) X (con_m_weightOf N g l3 (-1) 0 c32 hc32) gwX10_weightOf hdX10_weightOf (by decide) rfl (by decide) rfl rfl rfl (Nat.le_of_ble_eq_true rfl) ⟨Nat.zero_le _, Nat.zero_le _⟩ dX10_likeliest_32 rfl rfl ?_
        refine V_lload_n X dX10_likeliest_35 1 rfl ?_
        refine V_lcmp X dX10_likeliest_36 ?_
        refine V_if_ne (tgt := 42) X dX10_likeliest_37 (by decide) h (fun h => ?_) (fun h => ?_)
        · refine V_iinc X dX10_likeliest_42 2 rfl (by decide) (L' := [(3, vI (l3 + 1)), (0, .ref (xb x + 0)), (1, vL l1)]) rfl ?_
          refine V_goto (tgt := 14) X dX10_likeliest_45 (by decide) ?_
          exact V_sub [1, 2, 0] rfl (hc14 _ (Option.some.inj h).symm)
        · obtain ⟨e2, h, e2q⟩ := outR_some h
          replace h := h.trans (congrArg some (he14 _ e2q))
          refine V_iload_n X dX10_likeliest_40 2 rfl ?_
          have hr := Option.some.inj h
          subst hr
          exact V_end_i hX rfl dX10_likeliest_41
  unfold m_likeliest at h
  show V x 4 Km 0 0 sz g 0 [(0, .ref (xb x + 0))] []
  refine V_aload_n X dX10_likeliest_0 0 rfl ?_
  refine V_iconst X dX10_likeliest_1 ?_
  refine putX10 X (o := 0) (j := 0) (a := 0) rfl (by decide) rfl rfl rfl q1548 dX10_likeliest_2 ?_
  refine V_aload_n X dX10_likeliest_5 0 rfl ?_
  refine V_iconst X dX10_likeliest_6 ?_
  refine V_iconst X dX10_likeliest_7 ?_
  obtain ⟨c8, hc8, h⟩ := bind_some_eq h
  refine V_callV (As := [vI (-1), vI 0]) (rest := []) (s1 := [vL c8]) (o := 0) X (con_m_mostBy N (sI g 900 0 0) (-1) 0 c8 hc8) gwX10_mostBy hdX10_mostBy (by decide) rfl (by decide) rfl rfl rfl (Nat.le_of_ble_eq_true rfl) ⟨Nat.zero_le _, Nat.zero_le _⟩ dX10_likeliest_8 rfl rfl ?_
  refine V_lstore_n X dX10_likeliest_11 (by decide) (L' := [(1, vL c8), (0, .ref (xb x + 0))]) rfl ?_
  refine V_iconst X dX10_likeliest_12 ?_
  refine V_istore_n X dX10_likeliest_13 (by decide) (L' := [(3, vI 0), (1, vL c8), (0, .ref (xb x + 0))]) rfl ?_
  exact V_sub [2, 1, 0] rfl (LL14 (sI g 900 0 0) c8 N 0 _ h rfl)
set_option maxHeartbeats 4000000 in
theorem con_m_ask (N : Nat) (g : GS) (r : (Int × GS)) (h : m_ask N g = some r) : Con yX10_ask cX10_ask 7 (some .int) 3 64 Km (fun b => [.ref (b + 0)]) g (fun _ => some (vI r.1)) r.2 := by
  refine Con.of RX10 (by decide) rfl (fun b => Nat.le_of_ble_eq_true rfl) (fun x sz hX => ?_)
  have X := hX.1
  have LL12 : ∀ (g : GS) (n : Nat) (s : (Int × Int × Int)) (e : (Int × GS)), loopN (fun s => m_ask_b12 N g s.1 s.2.1 s.2.2) n s = some e → (e = r) → V x 7 Km 0 0 sz g 12 [(0, .ref (xb x + 0)), (1, vI s.1), (2, vL s.2.1), (4, vI s.2.2)] [] := by
    intro g n s e
    refine loop_walk (P := fun s => V x 7 Km 0 0 sz g 12 [(0, .ref (xb x + 0)), (1, vI s.1), (2, vL s.2.1), (4, vI s.2.2)] []) (E := fun e => e = r) ?_ n s e
    clear e s n
    rintro ⟨l1, l2, l4⟩ q12 h hc12 he12
    replace h : m_ask_b12 N g l1 l2 l4 = some q12 := h
    have J64 : ∀ (l4 : Int) (l5 : Int), m_ask_j64 N g l4 l5 = some q12 → V x 7 Km 0 0 sz g 64 [(0, .ref (xb x + 0)), (4, vI l4), (5, vL l5)] [] := by
      intro l4 l5 h
      unfold m_ask_j64 at h
      refine V_iload X dX10_ask_64 1 rfl ?_
      refine V_istore_n X dX10_ask_66 (by decide) (L' := [(1, vI l4), (0, .ref (xb x + 0)), (4, vI l4), (5, vL l5)]) rfl ?_
      refine V_lload X dX10_ask_67 3 rfl ?_
      refine V_lstore_n X dX10_ask_69 (by decide) (L' := [(2, vL l5), (1, vI l4), (0, .ref (xb x + 0)), (4, vI l4), (5, vL l5)]) rfl ?_
      refine V_iinc X dX10_ask_70 3 rfl (by decide) (L' := [(4, vI (l4 + 1)), (2, vL l5), (1, vI l4), (0, .ref (xb x + 0)), (5, vL l5)]) rfl ?_
      refine V_goto (tgt := 12) X dX10_ask_73 (by decide) ?_
      exact V_sub [3, 2, 1, 0] rfl (hc12 _ (Option.some.inj h).symm)
    unfold m_ask_b12 at h
    show V x 7 Km 0 0 sz g 12 [(0, .ref (xb x + 0)), (1, vI l1), (2, vL l2), (4, vI l4)] []
    refine V_iload X dX10_ask_12 3 rfl ?_
    refine V_iconst X dX10_ask_14 ?_
    refine V_icmp_ge (tgt := 76) X dX10_ask_15 (by decide) h (fun h => ?_) (fun h => ?_)
    · obtain ⟨e1, h, e1q⟩ := outR_some h
      replace h := h.trans (congrArg some (he12 _ e1q))
      refine V_iload_n X dX10_ask_76 1 rfl ?_
      have hr := Option.some.inj h
      subst hr
      exact V_end_i hX rfl dX10_ask_77
    · refine V_aload_n X dX10_ask_18 0 rfl ?_
      refine getX10 X (o := 0) (j := 48) rfl (by decide) q1596 (fv_1 (i := 28) rfl rfl) dX10_ask_19 ?_
      refine V_iload X dX10_ask_22 3 rfl ?_
      refine V_iald X (o := 28) (n := 3) rfl (by decide) dX10_ask_24 h (fun v24 h => ?_)
      refine V_iconst X dX10_ask_25 ?_
      refine V_icmp_eq (tgt := 32) X dX10_ask_26 (by decide) h (fun h => ?_) (fun h => ?_)
      · refine V_aload_n X dX10_ask_32 0 rfl ?_
        refine V_iload X dX10_ask_33 3 rfl ?_
        refine V_iconst X dX10_ask_35 ?_
        obtain ⟨c36, hc36, h⟩ := bind_some_eq h
        refine V_callV (As := [vI l4, vI 0]) (rest := []) (s1 := [vL c36]) (o := 0) X (con_m_mostBy N g l4 0 c36 hc36) gwX10_mostBy hdX10_mostBy (by decide) rfl (by decide) rfl rfl rfl (Nat.le_of_ble_eq_true rfl) ⟨Nat.zero_le _, Nat.zero_le _⟩ dX10_ask_36 rfl rfl ?_
        refine V_aload_n X dX10_ask_39 0 rfl ?_
        refine V_iload X dX10_ask_40 3 rfl ?_
        refine V_iconst X dX10_ask_42 ?_
        obtain ⟨c43, hc43, h⟩ := bind_some_eq h
        refine V_callV (As := [vI l4, vI 1]) (rest := [vL c36]) (s1 := [vL c43, vL c36]) (o := 0) X (con_m_mostBy N g l4 1 c43 hc43) gwX10_mostBy hdX10_mostBy (by decide) rfl (by decide) rfl rfl rfl (Nat.le_of_ble_eq_true rfl) ⟨Nat.zero_le _, Nat.zero_le _⟩ dX10_ask_43 rfl rfl ?_
        refine V_ladd X dX10_ask_46 ?_
        refine V_lstore X dX10_ask_47 (by decide) (L' := [(5, vL (c36 + c43)), (0, .ref (xb x + 0)), (1, vI l1), (2, vL l2), (4, vI l4)]) rfl ?_
        refine V_iload_n X dX10_ask_49 2 rfl ?_
        refine V_iconst X dX10_ask_50 ?_
        refine V_icmp_eq (tgt := 64) X dX10_ask_51 (by decide) h (fun h => ?_) (fun h => ?_)
        · exact V_sub [1, 4, 0] rfl (J64 _ _ h)
        · refine V_lload X dX10_ask_54 0 rfl ?_
          refine V_lload_n X dX10_ask_56 3 rfl ?_
          refine V_lcmp X dX10_ask_57 ?_
          refine V_if_gt (tgt := 64) X dX10_ask_58 (by decide) h (fun h => ?_) (fun h => ?_)
          · exact V_sub [1, 4, 0] rfl (J64 _ _ h)
          · refine V_goto (tgt := 70) X dX10_ask_61 (by decide) ?_
            refine V_iinc X dX10_ask_70 4 rfl (by decide) (L' := [(4, vI (l4 + 1)), (5, vL (c36 + c43)), (0, .ref (xb x + 0)), (1, vI l1), (2, vL l2)]) rfl ?_
            refine V_goto (tgt := 12) X dX10_ask_73 (by decide) ?_
            exact V_sub [2, 3, 4, 0] rfl (hc12 _ (Option.some.inj h).symm)
      · refine V_goto (tgt := 70) X dX10_ask_29 (by decide) ?_
        refine V_iinc X dX10_ask_70 3 rfl (by decide) (L' := [(4, vI (l4 + 1)), (0, .ref (xb x + 0)), (1, vI l1), (2, vL l2)]) rfl ?_
        refine V_goto (tgt := 12) X dX10_ask_73 (by decide) ?_
        exact V_sub [1, 2, 3, 0] rfl (hc12 _ (Option.some.inj h).symm)
  unfold m_ask at h
  show V x 7 Km 0 0 sz g 0 [(0, .ref (xb x + 0))] []
  refine V_aload_n X dX10_ask_0 0 rfl ?_
  refine V_iconst X dX10_ask_1 ?_
  refine putX10 X (o := 0) (j := 0) (a := 0) rfl (by decide) rfl rfl rfl q1548 dX10_ask_2 ?_
  refine V_iconst X dX10_ask_5 ?_
  refine V_istore_n X dX10_ask_6 (by decide) (L' := [(1, vI (-1)), (0, .ref (xb x + 0))]) rfl ?_
  refine V_lconst X (a := 0) dX10_ask_7 (by decide) ?_
  refine V_lstore_n X dX10_ask_8 (by decide) (L' := [(2, vL 0), (1, vI (-1)), (0, .ref (xb x + 0))]) rfl ?_
  refine V_iconst X dX10_ask_9 ?_
  refine V_istore X dX10_ask_10 (by decide) (L' := [(4, vI 0), (2, vL 0), (1, vI (-1)), (0, .ref (xb x + 0))]) rfl ?_
  exact V_sub [3, 2, 1, 0] rfl (LL12 (sI g 900 0 0) N ((-1), 0, 0) _ h rfl)
set_option maxHeartbeats 4000000 in
theorem con_m_evening (N : Nat) (g : GS) (l1 : Int) (l2 : Int) (r : (Int × GS)) (h : m_evening N g l1 l2 = some r) : Con yX10_evening cX10_evening 4 (some .int) 6 130 Km (fun b => [.ref (b + 0), vI l1, vI l2]) g (fun _ => some (vI r.1)) r.2 := by
  refine Con.of RX10 (by decide) rfl (fun b => Nat.le_of_ble_eq_true rfl) (fun x sz hX => ?_)
  have X := hX.1
  unfold m_evening at h
  show V x 4 Km 0 0 sz g 0 [(0, .ref (xb x + 0)), (1, vI l1), (2, vI l2)] []
  refine V_aload_n X dX10_evening_0 0 rfl ?_
  refine V_iconst X dX10_evening_1 ?_
  refine putX10 X (o := 0) (j := 0) (a := 0) rfl (by decide) rfl rfl rfl q1548 dX10_evening_2 ?_
  refine V_aload_n X dX10_evening_5 0 rfl ?_
  refine V_iload_n X dX10_evening_6 2 rfl ?_
  refine V_iconst X dX10_evening_7 ?_
  refine V_iconst X dX10_evening_8 ?_
  obtain ⟨c9, hc9, h⟩ := bind_some_eq h
  refine V_callS (As := [vI l2, vI 0, vI 2]) (rest := [.ref (xb x + 0)]) (s1 := [vI c9, .ref (xb x + 0)]) X (con_m_within (sI g 900 0 0) l2 0 2 c9 hc9) gwX10_within hdX10_within (by decide) rfl rfl (Nat.le_of_ble_eq_true rfl) ⟨Nat.zero_le _, Nat.zero_le _⟩ dX10_evening_9 rfl rfl ?_
  refine V_iconst X dX10_evening_12 ?_
  refine V_iconst X dX10_evening_13 ?_
  obtain ⟨c14, hc14, h⟩ := bind_some_eq h
  refine V_callV (As := [vI c9, vI 1, vI 1]) (rest := []) (s1 := [vI c14.1]) (o := 0) X (con_m_may (sI g 900 0 0) c9 1 1 c14 hc14) gwX10_may hdX10_may (by decide) rfl (by decide) rfl rfl rfl (Nat.le_of_ble_eq_true rfl) ⟨Nat.zero_le _, Nat.zero_le _⟩ dX10_evening_14 rfl rfl ?_
  refine V_if_ne (tgt := 22) X dX10_evening_17 (by decide) h (fun h => ?_) (fun h => ?_)
  · refine V_aload_n X dX10_evening_22 0 rfl ?_
    refine V_iload_n X dX10_evening_23 1 rfl ?_
    refine putX10 X (o := 0) (j := 68) (a := l1) rfl (by decide) rfl rfl rfl q1616 dX10_evening_24 ?_
    refine V_aload_n X dX10_evening_27 0 rfl ?_
    refine V_iconst X dX10_evening_28 ?_
    obtain ⟨c29, hc29, h⟩ := bind_some_eq h
    refine V_callV (As := [vI 1]) (rest := []) (s1 := [vI c29.1]) (o := 0) X (con_m_goes N (sI c14.2 968 0 l1) 1 c29 hc29) gwX10_goes hdX10_goes (by decide) rfl (by decide) rfl rfl rfl (Nat.le_of_ble_eq_true rfl) ⟨Nat.zero_le _, Nat.zero_le _⟩ dX10_evening_29 rfl rfl ?_
    refine V_istore_n X dX10_evening_32 (by decide) (L' := [(3, vI c29.1), (0, .ref (xb x + 0)), (1, vI l1), (2, vI l2)]) rfl ?_
    refine V_iload_n X dX10_evening_33 3 rfl ?_
    refine V_if_ne (tgt := 41) X dX10_evening_34 (by decide) h (fun h => ?_) (fun h => ?_)
    · refine V_iload_n X dX10_evening_41 3 rfl ?_
      refine V_iconst X dX10_evening_42 ?_
      refine V_icmp_ne (tgt := 53) X dX10_evening_43 (by decide) h (fun h => ?_) (fun h => ?_)
      · refine V_aload_n X dX10_evening_53 1 rfl ?_
        refine getX10 X (o := 0) (j := 58) rfl (by decide) q1606 (fv_0 rfl) dX10_evening_54 ?_
        have hr := Option.some.inj h
        subst hr
        exact V_end_i hX rfl dX10_evening_57
      · refine V_aload_n X dX10_evening_46 1 rfl ?_
        obtain ⟨c47, hc47, h⟩ := bind_some_eq h
        refine V_callV (As := []) (rest := []) (s1 := [vI c47]) (o := 0) X (con_m_wetAll N c29.2 c47 hc47) gwX10_wetAll hdX10_wetAll (by decide) rfl (by decide) rfl rfl rfl (Nat.le_of_ble_eq_true rfl) ⟨Nat.zero_le _, Nat.zero_le _⟩ dX10_evening_47 rfl rfl ?_
        refine V_goto (tgt := 57) X dX10_evening_50 (by decide) ?_
        have hr := Option.some.inj h
        subst hr
        exact V_end_i hX rfl dX10_evening_57
    · refine V_iload_n X dX10_evening_37 0 rfl ?_
      refine V_goto (tgt := 57) X dX10_evening_38 (by decide) ?_
      have hr := Option.some.inj h
      subst hr
      exact V_end_i hX rfl dX10_evening_57
  · refine V_iconst X dX10_evening_20 ?_
    have hr := Option.some.inj h
    subst hr
    exact V_end_i hX rfl dX10_evening_21
set_option maxHeartbeats 4000000 in
theorem con_m_evenings (N : Nat) (g : GS) (l1 : Int) (l2 : Int) (l3 : Int) (r : (Int × GS)) (h : m_evenings N g l1 l2 l3 = some r) : Con yX10_evenings cX10_evenings 10 (some .int) 6 130 Km (fun b => [.ref (b + 0), vI l1, vI l2, vI l3]) g (fun _ => some (vI r.1)) r.2 := by
  refine Con.of RX10 (by decide) rfl (fun b => Nat.le_of_ble_eq_true rfl) (fun x sz hX => ?_)
  have X := hX.1
  have LL55 : ∀ (l1 : Int) (l2 : Int) (l3 : Int) (n : Nat) (s : (GS × Int × Int × Int × Int × Int)) (e : (GS × Int × Int × Int × Int)), loopN (fun s => m_evenings_b55 N l1 l2 l3 s.1 s.2.1 s.2.2.1 s.2.2.2.1 s.2.2.2.2.1 s.2.2.2.2.2) n s = some e → V x 10 Km 0 0 sz e.1 144 [(3, vI l3), (4, vI e.2.1), (5, vI e.2.2.1), (6, vI e.2.2.2.1), (7, vI e.2.2.2.2)] [] → V x 10 Km 0 0 sz s.1 55 [(0, .ref (xb x + 0)), (1, vI l1), (2, vI l2), (3, vI l3), (4, vI s.2.1), (5, vI s.2.2.1), (6, vI s.2.2.2.1), (7, vI s.2.2.2.2.1), (8, vI s.2.2.2.2.2)] [] := by
    intro l1 l2 l3 n s e
    refine loop_walk (P := fun s => V x 10 Km 0 0 sz s.1 55 [(0, .ref (xb x + 0)), (1, vI l1), (2, vI l2), (3, vI l3), (4, vI s.2.1), (5, vI s.2.2.1), (6, vI s.2.2.2.1), (7, vI s.2.2.2.2.1), (8, vI s.2.2.2.2.2)] []) (E := fun e => V x 10 Km 0 0 sz e.1 144 [(3, vI l3), (4, vI e.2.1), (5, vI e.2.2.1), (6, vI e.2.2.2.1), (7, vI e.2.2.2.2)] []) ?_ n s e
    clear e s n
    rintro ⟨g, l4, l5, l6, l7, l8⟩ q55 h hc55 he55
    replace h : m_evenings_b55 N l1 l2 l3 g l4 l5 l6 l7 l8 = some q55 := h
    have J135 : ∀ (g : GS) (l4 : Int) (l5 : Int) (l6 : Int) (l8 : Int) (s0 : Int) (s1 : Int), m_evenings_j135 N g l1 l2 l3 l4 l5 l6 l8 s0 s1 = some q55 → V x 10 Km 0 0 sz g 135 [(0, .ref (xb x + 0)), (1, vI l1), (2, vI l2), (3, vI l3), (4, vI l4), (5, vI l5), (6, vI l6), (8, vI l8)] [vI s0, vI s1] := by
      intro g l4 l5 l6 l8 s0 s1 h
      unfold m_evenings_j135 at h
      refine V_iadd X dX10_evenings_135 ?_
      refine V_istore X dX10_evenings_136 (by decide) (L' := [(7, vI (s1 + s0)), (0, .ref (xb x + 0)), (1, vI l1), (2, vI l2), (3, vI l3), (4, vI l4), (5, vI l5), (6, vI l6), (8, vI l8)]) rfl ?_
      refine V_iinc X dX10_evenings_138 8 rfl (by decide) (L' := [(8, vI (l8 + 1)), (7, vI (s1 + s0)), (0, .ref (xb x + 0)), (1, vI l1), (2, vI l2), (3, vI l3), (4, vI l4), (5, vI l5), (6, vI l6)]) rfl ?_
      refine V_goto (tgt := 55) X dX10_evenings_141 (by decide) ?_
      exact V_sub [2, 3, 4, 5, 6, 7, 8, 1, 0] rfl (hc55 _ (Option.some.inj h).symm)
    have J112 : ∀ (g : GS) (l4 : Int) (l6 : Int) (l7 : Int) (l8 : Int) (l9 : Int) (s0 : Int), m_evenings_j112 N g l1 l2 l3 l4 l6 l7 l8 l9 s0 = some q55 → V x 10 Km 0 0 sz g 112 [(0, .ref (xb x + 0)), (1, vI l1), (2, vI l2), (3, vI l3), (4, vI l4), (6, vI l6), (7, vI l7), (8, vI l8), (9, vI l9)] [vI s0] := by
      intro g l4 l6 l7 l8 l9 s0 h
      unfold m_evenings_j112 at h
      refine V_istore X dX10_evenings_112 (by decide) (L' := [(5, vI s0), (0, .ref (xb x + 0)), (1, vI l1), (2, vI l2), (3, vI l3), (4, vI l4), (6, vI l6), (7, vI l7), (8, vI l8), (9, vI l9)]) rfl ?_
      refine V_iload X dX10_evenings_114 6 rfl ?_
      refine V_iload X dX10_evenings_116 9 rfl ?_
      refine V_iadd X dX10_evenings_118 ?_
      refine V_istore X dX10_evenings_119 (by decide) (L' := [(6, vI (l6 + l9)), (5, vI s0), (0, .ref (xb x + 0)), (1, vI l1), (2, vI l2), (3, vI l3), (4, vI l4), (7, vI l7), (8, vI l8), (9, vI l9)]) rfl ?_
      refine V_iload X dX10_evenings_121 7 rfl ?_
      refine V_aload_n X dX10_evenings_123 2 rfl ?_
      refine getX10 X (o := 0) (j := 58) rfl (by decide) q1606 (fv_0 rfl) dX10_evenings_124 ?_
      refine V_if_ne (tgt := 134) X dX10_evenings_127 (by decide) h (fun h => ?_) (fun h => ?_)
      · refine V_iconst X dX10_evenings_134 ?_
        exact V_sub [2, 3, 4, 5, 6, 1, 0, 8] rfl (J135 _ _ _ _ _ _ _ h)
      · refine V_iconst X dX10_evenings_130 ?_
        refine V_goto (tgt := 135) X dX10_evenings_131 (by decide) ?_
        exact V_sub [2, 3, 4, 5, 6, 1, 0, 8] rfl (J135 _ _ _ _ _ _ _ h)
    have J96 : ∀ (g : GS) (l5 : Int) (l6 : Int) (l7 : Int) (l8 : Int) (l9 : Int) (s0 : Int), m_evenings_j96 N g l1 l2 l3 l5 l6 l7 l8 l9 s0 = some q55 → V x 10 Km 0 0 sz g 96 [(0, .ref (xb x + 0)), (1, vI l1), (2, vI l2), (3, vI l3), (5, vI l5), (6, vI l6), (7, vI l7), (8, vI l8), (9, vI l9)] [vI s0] := by
      intro g l5 l6 l7 l8 l9 s0 h
      unfold m_evenings_j96 at h
      refine V_istore X dX10_evenings_96 (by decide) (L' := [(4, vI s0), (0, .ref (xb x + 0)), (1, vI l1), (2, vI l2), (3, vI l3), (5, vI l5), (6, vI l6), (7, vI l7), (8, vI l8), (9, vI l9)]) rfl ?_
      refine V_iload X dX10_evenings_98 9 rfl ?_
      refine V_iload X dX10_evenings_100 5 rfl ?_
      refine V_icmp_le (tgt := 110) X dX10_evenings_102 (by decide) h (fun h => ?_) (fun h => ?_)
      · refine V_iload X dX10_evenings_110 5 rfl ?_
        exact V_sub [1, 2, 3, 4, 0, 6, 7, 8, 9] rfl (J112 _ _ _ _ _ _ _ h)
      · refine V_iload X dX10_evenings_105 9 rfl ?_
        refine V_goto (tgt := 112) X dX10_evenings_107 (by decide) ?_
        exact V_sub [1, 2, 3, 4, 0, 6, 7, 8, 9] rfl (J112 _ _ _ _ _ _ _ h)
    unfold m_evenings_b55 at h
    show V x 10 Km 0 0 sz g 55 [(0, .ref (xb x + 0)), (1, vI l1), (2, vI l2), (3, vI l3), (4, vI l4), (5, vI l5), (6, vI l6), (7, vI l7), (8, vI l8)] []
    refine V_iload X dX10_evenings_55 8 rfl ?_
    refine V_iload_n X dX10_evenings_57 2 rfl ?_
    refine V_icmp_ge (tgt := 144) X dX10_evenings_58 (by decide) h (fun h => ?_) (fun h => ?_)
    · exact V_sub [3, 4, 5, 6, 7] rfl (he55 _ (Option.some.inj h).symm)
    · refine V_aload_n X dX10_evenings_61 0 rfl ?_
      refine V_iload_n X dX10_evenings_62 1 rfl ?_
      refine V_iload X dX10_evenings_63 8 rfl ?_
      refine V_iadd X dX10_evenings_65 ?_
      refine putX10 X (o := 0) (j := 68) (a := (l1 + l8)) rfl (by decide) rfl rfl rfl q1616 dX10_evenings_66 ?_
      refine V_aload_n X dX10_evenings_69 0 rfl ?_
      refine V_iconst X dX10_evenings_70 ?_
      obtain ⟨c71, hc71, h⟩ := bind_some_eq h
      refine V_callV (As := [vI 1]) (rest := []) (s1 := [vI c71.1]) (o := 0) X (con_m_goes N (sI g 968 0 (l1 + l8)) 1 c71 hc71) gwX10_goes hdX10_goes (by decide) rfl (by decide) rfl rfl rfl (Nat.le_of_ble_eq_true rfl) ⟨Nat.zero_le _, Nat.zero_le _⟩ dX10_evenings_71 rfl rfl ?_
      refine V_istore X dX10_evenings_74 (by decide) (L' := [(9, vI c71.1), (0, .ref (xb x + 0)), (1, vI l1), (2, vI l2), (3, vI l3), (4, vI l4), (5, vI l5), (6, vI l6), (7, vI l7), (8, vI l8)]) rfl ?_
      refine V_iload X dX10_evenings_76 5 rfl ?_
      refine V_iconst X dX10_evenings_78 ?_
      refine V_icmp_eq (tgt := 89) X dX10_evenings_79 (by decide) h (fun h => ?_) (fun h => ?_)
      · refine V_iload X dX10_evenings_89 0 rfl ?_
        refine V_goto (tgt := 96) X dX10_evenings_91 (by decide) ?_
        exact V_sub [1, 2, 3, 4, 6, 7, 8, 9, 0] rfl (J96 _ _ _ _ _ _ _ h)
      · refine V_iload X dX10_evenings_82 0 rfl ?_
        refine V_iload X dX10_evenings_84 5 rfl ?_
        refine V_icmp_ge (tgt := 94) X dX10_evenings_86 (by decide) h (fun h => ?_) (fun h => ?_)
        · refine V_iload X dX10_evenings_94 5 rfl ?_
          exact V_sub [1, 2, 3, 4, 6, 7, 8, 9, 0] rfl (J96 _ _ _ _ _ _ _ h)
        · refine V_iload X dX10_evenings_89 0 rfl ?_
          refine V_goto (tgt := 96) X dX10_evenings_91 (by decide) ?_
          exact V_sub [1, 2, 3, 4, 6, 7, 8, 9, 0] rfl (J96 _ _ _ _ _ _ _ h)
  have J30 : ∀ (g : GS) (l1 : Int) (l2 : Int) (l3 : Int) (s0 : Int), m_evenings_j30 N g l1 l2 l3 s0 = some r → V x 10 Km 0 0 sz g 30 [(0, .ref (xb x + 0)), (1, vI l1), (2, vI l2), (3, vI l3)] [vI s0, .ref (xb x + 0)] := by
    intro g l1 l2 l3 s0 h
    unfold m_evenings_j30 at h
    refine V_iconst X dX10_evenings_30 ?_
    refine V_iconst X dX10_evenings_31 ?_
    obtain ⟨c32, hc32, h⟩ := bind_some_eq h
    refine V_callV (As := [vI s0, vI 1, vI 1]) (rest := []) (s1 := [vI c32.1]) (o := 0) X (con_m_may g s0 1 1 c32 hc32) gwX10_may hdX10_may (by decide) rfl (by decide) rfl rfl rfl (Nat.le_of_ble_eq_true rfl) ⟨Nat.zero_le _, Nat.zero_le _⟩ dX10_evenings_32 rfl rfl ?_
    refine V_if_ne (tgt := 40) X dX10_evenings_35 (by decide) h (fun h => ?_) (fun h => ?_)
    · refine V_iconst X dX10_evenings_40 ?_
      refine V_istore X dX10_evenings_41 (by decide) (L' := [(4, vI (-1)), (0, .ref (xb x + 0)), (1, vI l1), (2, vI l2), (3, vI l3)]) rfl ?_
      refine V_iconst X dX10_evenings_43 ?_
      refine V_istore X dX10_evenings_44 (by decide) (L' := [(5, vI 0), (4, vI (-1)), (0, .ref (xb x + 0)), (1, vI l1), (2, vI l2), (3, vI l3)]) rfl ?_
      refine V_iconst X dX10_evenings_46 ?_
      refine V_istore X dX10_evenings_47 (by decide) (L' := [(6, vI 0), (5, vI 0), (4, vI (-1)), (0, .ref (xb x + 0)), (1, vI l1), (2, vI l2), (3, vI l3)]) rfl ?_
      refine V_iconst X dX10_evenings_49 ?_
      refine V_istore X dX10_evenings_50 (by decide) (L' := [(7, vI 0), (6, vI 0), (5, vI 0), (4, vI (-1)), (0, .ref (xb x + 0)), (1, vI l1), (2, vI l2), (3, vI l3)]) rfl ?_
      refine V_iconst X dX10_evenings_52 ?_
      refine V_istore X dX10_evenings_53 (by decide) (L' := [(8, vI 0), (7, vI 0), (6, vI 0), (5, vI 0), (4, vI (-1)), (0, .ref (xb x + 0)), (1, vI l1), (2, vI l2), (3, vI l3)]) rfl ?_
      obtain ⟨t1, t1q, h⟩ := bind_some_eq h
      refine V_sub [5, 6, 7, 8, 4, 3, 2, 1, 0] rfl (LL55 l1 l2 l3 N (c32.2, (-1), 0, 0, 0, 0) _ t1q ?_)
      refine V_iload_n X dX10_evenings_144 0 rfl ?_
      refine V_if_ne (tgt := 153) X dX10_evenings_145 (by decide) h (fun h => ?_) (fun h => ?_)
      · refine V_iload_n X dX10_evenings_153 0 rfl ?_
        refine V_iconst X dX10_evenings_154 ?_
        refine V_icmp_ne (tgt := 163) X dX10_evenings_155 (by decide) h (fun h => ?_) (fun h => ?_)
        · refine V_iload_n X dX10_evenings_163 0 rfl ?_
          refine V_iconst X dX10_evenings_164 ?_
          refine V_icmp_ne (tgt := 173) X dX10_evenings_165 (by decide) h (fun h => ?_) (fun h => ?_)
          · refine V_iload X dX10_evenings_173 4 rfl ?_
            have hr := Option.some.inj h
            subst hr
            exact V_end_i hX rfl dX10_evenings_175
          · refine V_iload X dX10_evenings_168 3 rfl ?_
            refine V_goto (tgt := 175) X dX10_evenings_170 (by decide) ?_
            have hr := Option.some.inj h
            subst hr
            exact V_end_i hX rfl dX10_evenings_175
        · refine V_iload X dX10_evenings_158 2 rfl ?_
          refine V_goto (tgt := 175) X dX10_evenings_160 (by decide) ?_
          have hr := Option.some.inj h
          subst hr
          exact V_end_i hX rfl dX10_evenings_175
      · refine V_iload X dX10_evenings_148 1 rfl ?_
        refine V_goto (tgt := 175) X dX10_evenings_150 (by decide) ?_
        have hr := Option.some.inj h
        subst hr
        exact V_end_i hX rfl dX10_evenings_175
    · refine V_iconst X dX10_evenings_38 ?_
      have hr := Option.some.inj h
      subst hr
      exact V_end_i hX rfl dX10_evenings_39
  have J29 : ∀ (g : GS) (l1 : Int) (l2 : Int) (l3 : Int), m_evenings_j29 N g l1 l2 l3 = some r → V x 10 Km 0 0 sz g 29 [(0, .ref (xb x + 0)), (1, vI l1), (2, vI l2), (3, vI l3)] [.ref (xb x + 0)] := by
    intro g l1 l2 l3 h
    unfold m_evenings_j29 at h
    refine V_iconst X dX10_evenings_29 ?_
    exact V_sub [0, 1, 2, 3] rfl (J30 _ _ _ _ _ h)
  unfold m_evenings at h
  show V x 10 Km 0 0 sz g 0 [(0, .ref (xb x + 0)), (1, vI l1), (2, vI l2), (3, vI l3)] []
  refine V_aload_n X dX10_evenings_0 0 rfl ?_
  refine V_iconst X dX10_evenings_1 ?_
  refine putX10 X (o := 0) (j := 0) (a := 0) rfl (by decide) rfl rfl rfl q1548 dX10_evenings_2 ?_
  refine V_aload_n X dX10_evenings_5 0 rfl ?_
  refine V_iload_n X dX10_evenings_6 2 rfl ?_
  refine V_iconst X dX10_evenings_7 ?_
  refine V_bipush X dX10_evenings_8 (by decide) ?_
  obtain ⟨c10, hc10, h⟩ := bind_some_eq h
  refine V_callS (As := [vI l2, vI 1, vI 40]) (rest := [.ref (xb x + 0)]) (s1 := [vI c10, .ref (xb x + 0)]) X (con_m_within (sI g 900 0 0) l2 1 40 c10 hc10) gwX10_within hdX10_within (by decide) rfl rfl (Nat.le_of_ble_eq_true rfl) ⟨Nat.zero_le _, Nat.zero_le _⟩ dX10_evenings_10 rfl rfl ?_
  refine V_if_eq (tgt := 29) X dX10_evenings_13 (by decide) h (fun h => ?_) (fun h => ?_)
  · exact V_sub [0, 1, 2, 3] rfl (J29 _ _ _ _ h)
  · refine V_iload_n X dX10_evenings_16 3 rfl ?_
    refine V_iconst X dX10_evenings_17 ?_
    refine V_iconst X dX10_evenings_18 ?_
    obtain ⟨c19, hc19, h⟩ := bind_some_eq h
    refine V_callS (As := [vI l3, vI 0, vI 3]) (rest := [.ref (xb x + 0)]) (s1 := [vI c19, .ref (xb x + 0)]) X (con_m_within (sI g 900 0 0) l3 0 3 c19 hc19) gwX10_within hdX10_within (by decide) rfl rfl (Nat.le_of_ble_eq_true rfl) ⟨Nat.zero_le _, Nat.zero_le _⟩ dX10_evenings_19 rfl rfl ?_
    refine V_if_eq (tgt := 29) X dX10_evenings_22 (by decide) h (fun h => ?_) (fun h => ?_)
    · exact V_sub [0, 1, 2, 3] rfl (J29 _ _ _ _ h)
    · refine V_iconst X dX10_evenings_25 ?_
      refine V_goto (tgt := 30) X dX10_evenings_26 (by decide) ?_
      exact V_sub [0, 1, 2, 3] rfl (J30 _ _ _ _ _ h)
set_option maxHeartbeats 4000000 in
theorem con_m_keepsIn (N : Nat) (l1 : Nat) (n1 : Nat) (hK1 : Km l1 = 10000 + n1 ∧ n1 < 10000) (g : GS) (l2 : Int) (r : GS) (h : m_keepsIn N l1 n1 g l2 = some r) : Con yX10_keepsIn cX10_keepsIn 4 none 1 12 Km (fun b => [.ref (b + 0), .ref (b + l1), vI l2]) g (fun _ => none) r := by
  refine Con.of RX10 (by decide) rfl (fun b => Nat.le_of_ble_eq_true rfl) (fun x sz hX => ?_)
  have X := hX.1
  have LL2 : ∀ (l2 : Int) (n : Nat) (s : (GS × Int)) (e : (GS)), loopN (fun s => m_keepsIn_b2 N l1 n1 l2 s.1 s.2) n s = some e → V x 4 Km 0 0 sz e 25 [(0, .ref (xb x + 0)), (1, .ref (xb x + l1)), (2, vI l2)] [] → V x 4 Km 0 0 sz s.1 2 [(0, .ref (xb x + 0)), (1, .ref (xb x + l1)), (2, vI l2), (3, vI s.2)] [] := by
    intro l2 n s e
    refine loop_walk (P := fun s => V x 4 Km 0 0 sz s.1 2 [(0, .ref (xb x + 0)), (1, .ref (xb x + l1)), (2, vI l2), (3, vI s.2)] []) (E := fun e => V x 4 Km 0 0 sz e 25 [(0, .ref (xb x + 0)), (1, .ref (xb x + l1)), (2, vI l2)] []) ?_ n s e
    clear e s n
    rintro ⟨g, l3⟩ q2 h hc2 he2
    replace h : m_keepsIn_b2 N l1 n1 l2 g l3 = some q2 := h
    unfold m_keepsIn_b2 at h
    show V x 4 Km 0 0 sz g 2 [(0, .ref (xb x + 0)), (1, .ref (xb x + l1)), (2, vI l2), (3, vI l3)] []
    refine V_iload_n X dX10_keepsIn_2 3 rfl ?_
    refine V_bipush X dX10_keepsIn_3 (by decide) ?_
    refine V_icmp_ge (tgt := 25) X dX10_keepsIn_5 (by decide) h (fun h => ?_) (fun h => ?_)
    · exact V_sub [0, 1, 2] rfl (he2 _ (Option.some.inj h).symm)
    · refine V_aload_n X dX10_keepsIn_8 1 rfl ?_
      refine V_iload_n X dX10_keepsIn_9 2 rfl ?_
      refine V_iload_n X dX10_keepsIn_10 3 rfl ?_
      refine V_iadd X dX10_keepsIn_11 ?_
      refine V_aload_n X dX10_keepsIn_12 0 rfl ?_
      refine getX10 X (o := 0) (j := 46) rfl (by decide) q1594 (fv_1 (i := 26) rfl rfl) dX10_keepsIn_13 ?_
      refine V_iload_n X dX10_keepsIn_16 3 rfl ?_
      refine V_iald X (o := 26) (n := 24) rfl (by decide) dX10_keepsIn_17 h (fun v17 h => ?_)
      refine V_iast X (o := l1) (n := n1) hK1.1 hK1.2 dX10_keepsIn_18 h (fun g18 h => ?_)
      refine V_iinc X dX10_keepsIn_19 3 rfl (by decide) (L' := [(3, vI (l3 + 1)), (0, .ref (xb x + 0)), (1, .ref (xb x + l1)), (2, vI l2)]) rfl ?_
      refine V_goto (tgt := 2) X dX10_keepsIn_22 (by decide) ?_
      exact V_sub [1, 2, 3, 0] rfl (hc2 _ (Option.some.inj h).symm)
  unfold m_keepsIn at h
  show V x 4 Km 0 0 sz g 0 [(0, .ref (xb x + 0)), (1, .ref (xb x + l1)), (2, vI l2)] []
  refine V_iconst X dX10_keepsIn_0 ?_
  refine V_istore_n X dX10_keepsIn_1 (by decide) (L' := [(3, vI 0), (0, .ref (xb x + 0)), (1, .ref (xb x + l1)), (2, vI l2)]) rfl ?_
  obtain ⟨t1, t1q, h⟩ := bind_some_eq h
  refine V_sub [1, 2, 3, 0] rfl (LL2 l2 N (g, 0) _ t1q ?_)
  refine V_aload_n X dX10_keepsIn_25 1 rfl ?_
  refine V_iload_n X dX10_keepsIn_26 2 rfl ?_
  refine V_bipush X dX10_keepsIn_27 (by decide) ?_
  refine V_iadd X dX10_keepsIn_29 ?_
  refine V_aload_n X dX10_keepsIn_30 0 rfl ?_
  refine getX10 X (o := 0) (j := 49) rfl (by decide) q1597 (fv_0 rfl) dX10_keepsIn_31 ?_
  refine V_iast X (o := l1) (n := n1) hK1.1 hK1.2 dX10_keepsIn_34 h (fun g34 h => ?_)
  have hr := Option.some.inj h
  subst hr
  exact V_end_v hX rfl dX10_keepsIn_35
set_option maxHeartbeats 4000000 in
theorem con_m_takesFrom (N : Nat) (l1 : Nat) (n1 : Nat) (hK1 : Km l1 = 10000 + n1 ∧ n1 < 10000) (g : GS) (l2 : Int) (r : GS) (h : m_takesFrom N l1 n1 g l2 = some r) : Con yX10_takesFrom cX10_takesFrom 4 none 1 12 Km (fun b => [.ref (b + 0), .ref (b + l1), vI l2]) g (fun _ => none) r := by
  refine Con.of RX10 (by decide) rfl (fun b => Nat.le_of_ble_eq_true rfl) (fun x sz hX => ?_)
  have X := hX.1
  have LL2 : ∀ (l2 : Int) (n : Nat) (s : (GS × Int)) (e : (GS)), loopN (fun s => m_takesFrom_b2 N l1 n1 l2 s.1 s.2) n s = some e → V x 4 Km 0 0 sz e 25 [(0, .ref (xb x + 0)), (1, .ref (xb x + l1)), (2, vI l2)] [] → V x 4 Km 0 0 sz s.1 2 [(0, .ref (xb x + 0)), (1, .ref (xb x + l1)), (2, vI l2), (3, vI s.2)] [] := by
    intro l2 n s e
    refine loop_walk (P := fun s => V x 4 Km 0 0 sz s.1 2 [(0, .ref (xb x + 0)), (1, .ref (xb x + l1)), (2, vI l2), (3, vI s.2)] []) (E := fun e => V x 4 Km 0 0 sz e 25 [(0, .ref (xb x + 0)), (1, .ref (xb x + l1)), (2, vI l2)] []) ?_ n s e
    clear e s n
    rintro ⟨g, l3⟩ q2 h hc2 he2
    replace h : m_takesFrom_b2 N l1 n1 l2 g l3 = some q2 := h
    unfold m_takesFrom_b2 at h
    show V x 4 Km 0 0 sz g 2 [(0, .ref (xb x + 0)), (1, .ref (xb x + l1)), (2, vI l2), (3, vI l3)] []
    refine V_iload_n X dX10_takesFrom_2 3 rfl ?_
    refine V_bipush X dX10_takesFrom_3 (by decide) ?_
    refine V_icmp_ge (tgt := 25) X dX10_takesFrom_5 (by decide) h (fun h => ?_) (fun h => ?_)
    · exact V_sub [0, 1, 2] rfl (he2 _ (Option.some.inj h).symm)
    · refine V_aload_n X dX10_takesFrom_8 0 rfl ?_
      refine getX10 X (o := 0) (j := 46) rfl (by decide) q1594 (fv_1 (i := 26) rfl rfl) dX10_takesFrom_9 ?_
      refine V_iload_n X dX10_takesFrom_12 3 rfl ?_
      refine V_aload_n X dX10_takesFrom_13 1 rfl ?_
      refine V_iload_n X dX10_takesFrom_14 2 rfl ?_
      refine V_iload_n X dX10_takesFrom_15 3 rfl ?_
      refine V_iadd X dX10_takesFrom_16 ?_
      refine V_iald X (o := l1) (n := n1) hK1.1 hK1.2 dX10_takesFrom_17 h (fun v17 h => ?_)
      refine V_iast X (o := 26) (n := 24) rfl (by decide) dX10_takesFrom_18 h (fun g18 h => ?_)
      refine V_iinc X dX10_takesFrom_19 3 rfl (by decide) (L' := [(3, vI (l3 + 1)), (0, .ref (xb x + 0)), (1, .ref (xb x + l1)), (2, vI l2)]) rfl ?_
      refine V_goto (tgt := 2) X dX10_takesFrom_22 (by decide) ?_
      exact V_sub [1, 2, 3, 0] rfl (hc2 _ (Option.some.inj h).symm)
  unfold m_takesFrom at h
  show V x 4 Km 0 0 sz g 0 [(0, .ref (xb x + 0)), (1, .ref (xb x + l1)), (2, vI l2)] []
  refine V_iconst X dX10_takesFrom_0 ?_
  refine V_istore_n X dX10_takesFrom_1 (by decide) (L' := [(3, vI 0), (0, .ref (xb x + 0)), (1, .ref (xb x + l1)), (2, vI l2)]) rfl ?_
  obtain ⟨t1, t1q, h⟩ := bind_some_eq h
  refine V_sub [1, 2, 3, 0] rfl (LL2 l2 N (g, 0) _ t1q ?_)
  refine V_aload_n X dX10_takesFrom_25 0 rfl ?_
  refine V_aload_n X dX10_takesFrom_26 1 rfl ?_
  refine V_iload_n X dX10_takesFrom_27 2 rfl ?_
  refine V_bipush X dX10_takesFrom_28 (by decide) ?_
  refine V_iadd X dX10_takesFrom_30 ?_
  refine V_iald X (o := l1) (n := n1) hK1.1 hK1.2 dX10_takesFrom_31 h (fun v31 h => ?_)
  refine putX10 X (o := 0) (j := 49) (a := v31) rfl (by decide) rfl rfl rfl q1597 dX10_takesFrom_32 ?_
  have hr := Option.some.inj h
  subst hr
  exact V_end_v hX rfl dX10_takesFrom_35
set_option maxHeartbeats 4000000 in
theorem con_m_changes (N : Nat) (g : GS) (r : (Int × GS)) (h : m_changes N g = some r) : Con yX10_changes cX10_changes 1 (some .boolean) 2 35 Km (fun b => [.ref (b + 0)]) g (fun _ => some (vI r.1)) r.2 := by
  refine Con.of RX10 (by decide) rfl (fun b => Nat.le_of_ble_eq_true rfl) (fun x sz hX => ?_)
  have X := hX.1
  unfold m_changes at h
  show V x 1 Km 0 0 sz g 0 [(0, .ref (xb x + 0))] []
  refine V_aload_n X dX10_changes_0 0 rfl ?_
  refine getX10 X (o := 0) (j := 70) rfl (by decide) q1618 (fv_0 rfl) dX10_changes_1 ?_
  refine V_bipush X dX10_changes_4 (by decide) ?_
  refine V_icmp_ne (tgt := 11) X dX10_changes_6 (by decide) h (fun h => ?_) (fun h => ?_)
  · refine V_aload_n X dX10_changes_11 0 rfl ?_
    refine V_aload_n X dX10_changes_12 0 rfl ?_
    refine getX10 X (o := 0) (j := 69) rfl (by decide) q1617 (fv_1 (i := 41) rfl rfl) dX10_changes_13 ?_
    refine V_bipush X dX10_changes_16 (by decide) ?_
    refine V_aload_n X dX10_changes_18 0 rfl ?_
    refine getX10 X (o := 0) (j := 70) rfl (by decide) q1618 (fv_0 rfl) dX10_changes_19 ?_
    refine V_imul X dX10_changes_22 ?_
    obtain ⟨c23, hc23, h⟩ := bind_some_eq h
    refine V_callV (As := [.ref (xb x + 41), vI (25 * (gI g 970 0))]) (rest := []) (s1 := []) (o := 0) X (con_m_keepsIn N 41 500 ⟨rfl, (by decide)⟩ g (25 * (gI g 970 0)) c23 hc23) gwX10_keepsIn hdX10_keepsIn (by decide) rfl (by decide) rfl rfl rfl (Nat.le_of_ble_eq_true rfl) ⟨Nat.zero_le _, Nat.zero_le _⟩ dX10_changes_23 rfl rfl ?_
    refine V_aload_n X dX10_changes_26 0 rfl ?_
    refine V_dup X dX10_changes_27 rfl ?_
    refine getX10 X (o := 0) (j := 70) rfl (by decide) q1618 (fv_0 rfl) dX10_changes_28 ?_
    refine V_iconst X dX10_changes_31 ?_
    refine V_iadd X dX10_changes_32 ?_
    refine putX10 X (o := 0) (j := 70) (a := ((gI c23 970 0) + 1)) rfl (by decide) rfl rfl rfl q1618 dX10_changes_33 ?_
    refine V_iconst X dX10_changes_36 ?_
    have hr := Option.some.inj h
    subst hr
    exact V_end_z hX (Or.inr rfl) rfl dX10_changes_37
  · refine V_iconst X dX10_changes_9 ?_
    have hr := Option.some.inj h
    subst hr
    exact V_end_z hX (Or.inl rfl) rfl dX10_changes_10
set_option maxHeartbeats 4000000 in
theorem con_m_swap (N : Nat) (g : GS) (l1 : Int) (l2 : Int) (r : (Int × GS)) (h : m_swap N g l1 l2 = some r) : Con yX10_swap cX10_swap 5 (some .int) 3 57 Km (fun b => [.ref (b + 0), vI l1, vI l2]) g (fun _ => some (vI r.1)) r.2 := by
  refine Con.of RX10 (by decide) rfl (fun b => Nat.le_of_ble_eq_true rfl) (fun x sz hX => ?_)
  have X := hX.1
  have LL43 : ∀ (l1 : Int) (l2 : Int) (n : Nat) (s : (GS × Int)) (e : (Int × GS)), loopN (fun s => m_swap_b43 N l1 l2 s.1 s.2) n s = some e → (e = r) → V x 5 Km 0 0 sz s.1 43 [(0, .ref (xb x + 0)), (1, vI l1), (2, vI l2), (3, vI s.2)] [] := by
    intro l1 l2 n s e
    refine loop_walk (P := fun s => V x 5 Km 0 0 sz s.1 43 [(0, .ref (xb x + 0)), (1, vI l1), (2, vI l2), (3, vI s.2)] []) (E := fun e => e = r) ?_ n s e
    clear e s n
    rintro ⟨g, l3⟩ q43 h hc43 he43
    replace h : m_swap_b43 N l1 l2 g l3 = some q43 := h
    unfold m_swap_b43 at h
    show V x 5 Km 0 0 sz g 43 [(0, .ref (xb x + 0)), (1, vI l1), (2, vI l2), (3, vI l3)] []
    refine V_iload_n X dX10_swap_43 3 rfl ?_
    refine V_iconst X dX10_swap_44 ?_
    refine V_icmp_ge (tgt := 98) X dX10_swap_45 (by decide) h (fun h => ?_) (fun h => ?_)
    · obtain ⟨e1, h, e1q⟩ := outR_some h
      replace h := h.trans (congrArg some (he43 _ e1q))
      refine V_iconst X dX10_swap_98 ?_
      have hr := Option.some.inj h
      subst hr
      exact V_end_i hX rfl dX10_swap_99
    · refine V_aload_n X dX10_swap_48 0 rfl ?_
      refine getX10 X (o := 0) (j := 46) rfl (by decide) q1594 (fv_1 (i := 26) rfl rfl) dX10_swap_49 ?_
      refine V_iconst X dX10_swap_52 ?_
      refine V_iload_n X dX10_swap_53 1 rfl ?_
      refine V_imul X dX10_swap_54 ?_
      refine V_iload_n X dX10_swap_55 3 rfl ?_
      refine V_iadd X dX10_swap_56 ?_
      refine V_iald X (o := 26) (n := 24) rfl (by decide) dX10_swap_57 h (fun v57 h => ?_)
      refine V_istore X dX10_swap_58 (by decide) (L' := [(4, vI v57), (0, .ref (xb x + 0)), (1, vI l1), (2, vI l2), (3, vI l3)]) rfl ?_
      refine V_aload_n X dX10_swap_60 1 rfl ?_
      refine getX10 X (o := 0) (j := 46) rfl (by decide) q1594 (fv_1 (i := 26) rfl rfl) dX10_swap_61 ?_
      refine V_iconst X dX10_swap_64 ?_
      refine V_iload_n X dX10_swap_65 2 rfl ?_
      refine V_imul X dX10_swap_66 ?_
      refine V_iload_n X dX10_swap_67 4 rfl ?_
      refine V_iadd X dX10_swap_68 ?_
      refine V_aload_n X dX10_swap_69 1 rfl ?_
      refine getX10 X (o := 0) (j := 46) rfl (by decide) q1594 (fv_1 (i := 26) rfl rfl) dX10_swap_70 ?_
      refine V_iconst X dX10_swap_73 ?_
      refine V_iload_n X dX10_swap_74 3 rfl ?_
      refine V_imul X dX10_swap_75 ?_
      refine V_iload_n X dX10_swap_76 4 rfl ?_
      refine V_iadd X dX10_swap_77 ?_
      refine V_iald X (o := 26) (n := 24) rfl (by decide) dX10_swap_78 h (fun v78 h => ?_)
      refine V_iast X (o := 26) (n := 24) rfl (by decide) dX10_swap_79 h (fun g79 h => ?_)
      refine V_aload_n X dX10_swap_80 1 rfl ?_
      refine getX10 X (o := 0) (j := 46) rfl (by decide) q1594 (fv_1 (i := 26) rfl rfl) dX10_swap_81 ?_
      refine V_iconst X dX10_swap_84 ?_
      refine V_iload_n X dX10_swap_85 3 rfl ?_
      refine V_imul X dX10_swap_86 ?_
      refine V_iload_n X dX10_swap_87 4 rfl ?_
      refine V_iadd X dX10_swap_88 ?_
      refine V_iload X dX10_swap_89 0 rfl ?_
      refine V_iast X (o := 26) (n := 24) rfl (by decide) dX10_swap_91 h (fun g91 h => ?_)
      refine V_iinc X dX10_swap_92 4 rfl (by decide) (L' := [(3, vI (l3 + 1)), (4, vI v57), (0, .ref (xb x + 0)), (1, vI l1), (2, vI l2)]) rfl ?_
      refine V_goto (tgt := 43) X dX10_swap_95 (by decide) ?_
      exact V_sub [2, 3, 4, 0] rfl (hc43 _ (Option.some.inj h).symm)
  unfold m_swap at h
  show V x 5 Km 0 0 sz g 0 [(0, .ref (xb x + 0)), (1, vI l1), (2, vI l2)] []
  refine V_aload_n X dX10_swap_0 0 rfl ?_
  refine V_iconst X dX10_swap_1 ?_
  refine putX10 X (o := 0) (j := 0) (a := 0) rfl (by decide) rfl rfl rfl q1548 dX10_swap_2 ?_
  refine V_aload_n X dX10_swap_5 0 rfl ?_
  refine V_iload_n X dX10_swap_6 1 rfl ?_
  refine V_iconst X dX10_swap_7 ?_
  obtain ⟨c8, hc8, h⟩ := bind_some_eq h
  refine V_callV (As := [vI l1, vI 1]) (rest := []) (s1 := [vI c8.1]) (o := 0) X (con_m_isLine (sI g 900 0 0) l1 1 c8 hc8) gwX10_isLine hdX10_isLine (by decide) rfl (by decide) rfl rfl rfl (Nat.le_of_ble_eq_true rfl) ⟨Nat.zero_le _, Nat.zero_le _⟩ dX10_swap_8 rfl rfl ?_
  refine V_if_eq (tgt := 23) X dX10_swap_11 (by decide) h (fun h => ?_) (fun h => ?_)
  · refine V_iconst X dX10_swap_23 ?_
    have hr := Option.some.inj h
    subst hr
    exact V_end_i hX rfl dX10_swap_24
  · refine V_aload_n X dX10_swap_14 0 rfl ?_
    refine V_iload_n X dX10_swap_15 2 rfl ?_
    refine V_iconst X dX10_swap_16 ?_
    obtain ⟨c17, hc17, h⟩ := bind_some_eq h
    refine V_callV (As := [vI l2, vI 1]) (rest := []) (s1 := [vI c17.1]) (o := 0) X (con_m_isLine c8.2 l2 1 c17 hc17) gwX10_isLine hdX10_isLine (by decide) rfl (by decide) rfl rfl rfl (Nat.le_of_ble_eq_true rfl) ⟨Nat.zero_le _, Nat.zero_le _⟩ dX10_swap_17 rfl rfl ?_
    refine V_if_ne (tgt := 25) X dX10_swap_20 (by decide) h (fun h => ?_) (fun h => ?_)
    · refine V_iload_n X dX10_swap_25 1 rfl ?_
      refine V_iload_n X dX10_swap_26 2 rfl ?_
      refine V_icmp_ne (tgt := 32) X dX10_swap_27 (by decide) h (fun h => ?_) (fun h => ?_)
      · refine V_aload_n X dX10_swap_32 0 rfl ?_
        obtain ⟨c33, hc33, h⟩ := bind_some_eq h
        refine V_callV (As := []) (rest := []) (s1 := [vI c33.1]) (o := 0) X (con_m_changes N c17.2 c33 hc33) gwX10_changes hdX10_changes (by decide) rfl (by decide) rfl rfl rfl (Nat.le_of_ble_eq_true rfl) ⟨Nat.zero_le _, Nat.zero_le _⟩ dX10_swap_33 rfl rfl ?_
        refine V_if_ne (tgt := 41) X dX10_swap_36 (by decide) h (fun h => ?_) (fun h => ?_)
        · refine V_iconst X dX10_swap_41 ?_
          refine V_istore_n X dX10_swap_42 (by decide) (L' := [(3, vI 0), (0, .ref (xb x + 0)), (1, vI l1), (2, vI l2)]) rfl ?_
          exact V_sub [1, 2, 3, 0] rfl (LL43 l1 l2 N (c33.2, 0) _ h rfl)
        · refine V_iconst X dX10_swap_39 ?_
          have hr := Option.some.inj h
          subst hr
          exact V_end_i hX rfl dX10_swap_40
      · refine V_iconst X dX10_swap_30 ?_
        have hr := Option.some.inj h
        subst hr
        exact V_end_i hX rfl dX10_swap_31
    · refine V_iconst X dX10_swap_23 ?_
      have hr := Option.some.inj h
      subst hr
      exact V_end_i hX rfl dX10_swap_24
set_option maxHeartbeats 4000000 in
theorem con_m_hand (N : Nat) (g : GS) (l1 : Int) (l2 : Int) (r : (Int × GS)) (h : m_hand N g l1 l2 = some r) : Con yX10_hand cX10_hand 3 (some .int) 3 57 Km (fun b => [.ref (b + 0), vI l1, vI l2]) g (fun _ => some (vI r.1)) r.2 := by
  refine Con.of RX10 (by decide) rfl (fun b => Nat.le_of_ble_eq_true rfl) (fun x sz hX => ?_)
  have X := hX.1
  have J43 : ∀ (g : GS) (l1 : Int) (l2 : Int) (s0 : Int), m_hand_j43 N g l1 l2 s0 = some r → V x 3 Km 0 0 sz g 43 [(0, .ref (xb x + 0)), (1, vI l1), (2, vI l2)] [vI s0, .ref (xb x + 0)] := by
    intro g l1 l2 s0 h
    unfold m_hand_j43 at h
    refine V_iconst X dX10_hand_43 ?_
    refine V_iconst X dX10_hand_44 ?_
    obtain ⟨c45, hc45, h⟩ := bind_some_eq h
    refine V_callV (As := [vI s0, vI 2, vI 1]) (rest := []) (s1 := [vI c45.1]) (o := 0) X (con_m_may g s0 2 1 c45 hc45) gwX10_may hdX10_may (by decide) rfl (by decide) rfl rfl rfl (Nat.le_of_ble_eq_true rfl) ⟨Nat.zero_le _, Nat.zero_le _⟩ dX10_hand_45 rfl rfl ?_
    refine V_if_ne (tgt := 53) X dX10_hand_48 (by decide) h (fun h => ?_) (fun h => ?_)
    · refine V_aload_n X dX10_hand_53 0 rfl ?_
      obtain ⟨c54, hc54, h⟩ := bind_some_eq h
      refine V_callV (As := []) (rest := []) (s1 := [vI c54.1]) (o := 0) X (con_m_changes N c45.2 c54 hc54) gwX10_changes hdX10_changes (by decide) rfl (by decide) rfl rfl rfl (Nat.le_of_ble_eq_true rfl) ⟨Nat.zero_le _, Nat.zero_le _⟩ dX10_hand_54 rfl rfl ?_
      refine V_if_ne (tgt := 62) X dX10_hand_57 (by decide) h (fun h => ?_) (fun h => ?_)
      · refine V_aload_n X dX10_hand_62 0 rfl ?_
        refine getX10 X (o := 0) (j := 46) rfl (by decide) q1594 (fv_1 (i := 26) rfl rfl) dX10_hand_63 ?_
        refine V_iconst X dX10_hand_66 ?_
        refine V_iload_n X dX10_hand_67 1 rfl ?_
        refine V_imul X dX10_hand_68 ?_
        refine V_iconst X dX10_hand_69 ?_
        refine V_iadd X dX10_hand_70 ?_
        refine V_iload_n X dX10_hand_71 2 rfl ?_
        refine V_iast X (o := 26) (n := 24) rfl (by decide) dX10_hand_72 h (fun g72 h => ?_)
        refine V_iconst X dX10_hand_73 ?_
        have hr := Option.some.inj h
        subst hr
        exact V_end_i hX rfl dX10_hand_74
      · refine V_iconst X dX10_hand_60 ?_
        have hr := Option.some.inj h
        subst hr
        exact V_end_i hX rfl dX10_hand_61
    · refine V_iconst X dX10_hand_51 ?_
      have hr := Option.some.inj h
      subst hr
      exact V_end_i hX rfl dX10_hand_52
  have J42 : ∀ (g : GS) (l1 : Int) (l2 : Int), m_hand_j42 N g l1 l2 = some r → V x 3 Km 0 0 sz g 42 [(0, .ref (xb x + 0)), (1, vI l1), (2, vI l2)] [.ref (xb x + 0)] := by
    intro g l1 l2 h
    unfold m_hand_j42 at h
    refine V_iconst X dX10_hand_42 ?_
    exact V_sub [0, 1, 2] rfl (J43 _ _ _ _ h)
  unfold m_hand at h
  show V x 3 Km 0 0 sz g 0 [(0, .ref (xb x + 0)), (1, vI l1), (2, vI l2)] []
  refine V_aload_n X dX10_hand_0 0 rfl ?_
  refine V_iconst X dX10_hand_1 ?_
  refine putX10 X (o := 0) (j := 0) (a := 0) rfl (by decide) rfl rfl rfl q1548 dX10_hand_2 ?_
  refine V_aload_n X dX10_hand_5 0 rfl ?_
  refine V_iload_n X dX10_hand_6 1 rfl ?_
  refine V_iconst X dX10_hand_7 ?_
  obtain ⟨c8, hc8, h⟩ := bind_some_eq h
  refine V_callV (As := [vI l1, vI 1]) (rest := []) (s1 := [vI c8.1]) (o := 0) X (con_m_isLine (sI g 900 0 0) l1 1 c8 hc8) gwX10_isLine hdX10_isLine (by decide) rfl (by decide) rfl rfl rfl (Nat.le_of_ble_eq_true rfl) ⟨Nat.zero_le _, Nat.zero_le _⟩ dX10_hand_8 rfl rfl ?_
  refine V_if_eq (tgt := 51) X dX10_hand_11 (by decide) h (fun h => ?_) (fun h => ?_)
  · refine V_iconst X dX10_hand_51 ?_
    have hr := Option.some.inj h
    subst hr
    exact V_end_i hX rfl dX10_hand_52
  · refine V_aload_n X dX10_hand_14 0 rfl ?_
    refine V_iload_n X dX10_hand_15 2 rfl ?_
    refine V_if_le (tgt := 42) X dX10_hand_16 (by decide) h (fun h => ?_) (fun h => ?_)
    · exact V_sub [0, 1, 2] rfl (J42 _ _ _ h)
    · refine V_iload_n X dX10_hand_19 2 rfl ?_
      refine V_iconst X dX10_hand_20 ?_
      refine V_aload_n X dX10_hand_21 0 rfl ?_
      refine getX10 X (o := 0) (j := 32) rfl (by decide) q1580 (fv_0 rfl) dX10_hand_22 ?_
      refine V_ishl X dX10_hand_25 ?_
      refine V_icmp_ge (tgt := 42) X dX10_hand_26 (by decide) h (fun h => ?_) (fun h => ?_)
      · exact V_sub [0, 1, 2] rfl (J42 _ _ _ h)
      · refine V_aload_n X dX10_hand_29 0 rfl ?_
        refine V_iload_n X dX10_hand_30 2 rfl ?_
        obtain ⟨c31, hc31, h⟩ := bind_some_eq h
        refine V_callV (As := [vI l2]) (rest := [.ref (xb x + 0)]) (s1 := [vI c31, .ref (xb x + 0)]) (o := 0) X (con_m_onesOf N c8.2 l2 c31 hc31) gwX10_onesOf hdX10_onesOf (by decide) rfl (by decide) rfl rfl rfl (Nat.le_of_ble_eq_true rfl) ⟨Nat.zero_le _, Nat.zero_le _⟩ dX10_hand_31 rfl rfl ?_
        refine V_iconst X dX10_hand_34 ?_
        refine V_icmp_gt (tgt := 42) X dX10_hand_35 (by decide) h (fun h => ?_) (fun h => ?_)
        · exact V_sub [0, 1, 2] rfl (J42 _ _ _ h)
        · refine V_iconst X dX10_hand_38 ?_
          refine V_goto (tgt := 43) X dX10_hand_39 (by decide) ?_
          exact V_sub [0, 1, 2] rfl (J43 _ _ _ _ h)
set_option maxHeartbeats 4000000 in
theorem con_m_drop (N : Nat) (g : GS) (l1 : Int) (r : (Int × GS)) (h : m_drop N g l1 = some r) : Con yX10_drop cX10_drop 3 (some .int) 3 57 Km (fun b => [.ref (b + 0), vI l1]) g (fun _ => some (vI r.1)) r.2 := by
  refine Con.of RX10 (by decide) rfl (fun b => Nat.le_of_ble_eq_true rfl) (fun x sz hX => ?_)
  have X := hX.1
  have LL39 : ∀  (n : Nat) (s : (GS × Int)) (e : (Int × GS)), loopN (fun s => m_drop_b39 N s.1 s.2) n s = some e → (e = r) → V x 3 Km 0 0 sz s.1 39 [(0, .ref (xb x + 0)), (2, vI s.2)] [] := by
    intro  n s e
    refine loop_walk (P := fun s => V x 3 Km 0 0 sz s.1 39 [(0, .ref (xb x + 0)), (2, vI s.2)] []) (E := fun e => e = r) ?_ n s e
    clear e s n
    rintro ⟨g, l2⟩ q39 h hc39 he39
    replace h : m_drop_b39 N g l2 = some q39 := h
    unfold m_drop_b39 at h
    show V x 3 Km 0 0 sz g 39 [(0, .ref (xb x + 0)), (2, vI l2)] []
    refine V_iload_n X dX10_drop_39 1 rfl ?_
    refine V_iconst X dX10_drop_40 ?_
    refine V_aload_n X dX10_drop_41 0 rfl ?_
    refine getX10 X (o := 0) (j := 49) rfl (by decide) q1597 (fv_0 rfl) dX10_drop_42 ?_
    refine V_imul X dX10_drop_45 ?_
    refine V_icmp_ge (tgt := 69) X dX10_drop_46 (by decide) h (fun h => ?_) (fun h => ?_)
    · obtain ⟨e1, h, e1q⟩ := outR_some h
      replace h := h.trans (congrArg some (he39 _ e1q))
      refine V_aload_n X dX10_drop_69 0 rfl ?_
      refine getX10 X (o := 0) (j := 49) rfl (by decide) q1597 (fv_0 rfl) dX10_drop_70 ?_
      have hr := Option.some.inj h
      subst hr
      exact V_end_i hX rfl dX10_drop_73
    · refine V_aload_n X dX10_drop_49 0 rfl ?_
      refine getX10 X (o := 0) (j := 46) rfl (by decide) q1594 (fv_1 (i := 26) rfl rfl) dX10_drop_50 ?_
      refine V_iload_n X dX10_drop_53 1 rfl ?_
      refine V_aload_n X dX10_drop_54 0 rfl ?_
      refine getX10 X (o := 0) (j := 46) rfl (by decide) q1594 (fv_1 (i := 26) rfl rfl) dX10_drop_55 ?_
      refine V_iload_n X dX10_drop_58 1 rfl ?_
      refine V_iconst X dX10_drop_59 ?_
      refine V_iadd X dX10_drop_60 ?_
      refine V_iald X (o := 26) (n := 24) rfl (by decide) dX10_drop_61 h (fun v61 h => ?_)
      refine V_iast X (o := 26) (n := 24) rfl (by decide) dX10_drop_62 h (fun g62 h => ?_)
      refine V_iinc X dX10_drop_63 1 rfl (by decide) (L' := [(2, vI (l2 + 1)), (0, .ref (xb x + 0))]) rfl ?_
      refine V_goto (tgt := 39) X dX10_drop_66 (by decide) ?_
      exact V_sub [1, 0] rfl (hc39 _ (Option.some.inj h).symm)
  unfold m_drop at h
  show V x 3 Km 0 0 sz g 0 [(0, .ref (xb x + 0)), (1, vI l1)] []
  refine V_aload_n X dX10_drop_0 0 rfl ?_
  refine V_iconst X dX10_drop_1 ?_
  refine putX10 X (o := 0) (j := 0) (a := 0) rfl (by decide) rfl rfl rfl q1548 dX10_drop_2 ?_
  refine V_aload_n X dX10_drop_5 0 rfl ?_
  refine V_iload_n X dX10_drop_6 1 rfl ?_
  refine V_iconst X dX10_drop_7 ?_
  obtain ⟨c8, hc8, h⟩ := bind_some_eq h
  refine V_callV (As := [vI l1, vI 1]) (rest := []) (s1 := [vI c8.1]) (o := 0) X (con_m_isLine (sI g 900 0 0) l1 1 c8 hc8) gwX10_isLine hdX10_isLine (by decide) rfl (by decide) rfl rfl rfl (Nat.le_of_ble_eq_true rfl) ⟨Nat.zero_le _, Nat.zero_le _⟩ dX10_drop_8 rfl rfl ?_
  refine V_if_ne (tgt := 16) X dX10_drop_11 (by decide) h (fun h => ?_) (fun h => ?_)
  · refine V_aload_n X dX10_drop_16 0 rfl ?_
    obtain ⟨c17, hc17, h⟩ := bind_some_eq h
    refine V_callV (As := []) (rest := []) (s1 := [vI c17.1]) (o := 0) X (con_m_changes N c8.2 c17 hc17) gwX10_changes hdX10_changes (by decide) rfl (by decide) rfl rfl rfl (Nat.le_of_ble_eq_true rfl) ⟨Nat.zero_le _, Nat.zero_le _⟩ dX10_drop_17 rfl rfl ?_
    refine V_if_ne (tgt := 25) X dX10_drop_20 (by decide) h (fun h => ?_) (fun h => ?_)
    · refine V_aload_n X dX10_drop_25 0 rfl ?_
      refine V_dup X dX10_drop_26 rfl ?_
      refine getX10 X (o := 0) (j := 49) rfl (by decide) q1597 (fv_0 rfl) dX10_drop_27 ?_
      refine V_iconst X dX10_drop_30 ?_
      refine V_isub X dX10_drop_31 ?_
      refine putX10 X (o := 0) (j := 49) (a := ((gI c17.2 949 0) - 1)) rfl (by decide) rfl rfl rfl q1597 dX10_drop_32 ?_
      refine V_iconst X dX10_drop_35 ?_
      refine V_iload_n X dX10_drop_36 1 rfl ?_
      refine V_imul X dX10_drop_37 ?_
      refine V_istore_n X dX10_drop_38 (by decide) (L' := [(2, vI (2 * l1)), (0, .ref (xb x + 0)), (1, vI l1)]) rfl ?_
      exact V_sub [1, 0] rfl (LL39 N ((sI c17.2 949 0 ((gI c17.2 949 0) - 1)), (2 * l1)) _ h rfl)
    · refine V_iconst X dX10_drop_23 ?_
      have hr := Option.some.inj h
      subst hr
      exact V_end_i hX rfl dX10_drop_24
  · refine V_iconst X dX10_drop_14 ?_
    have hr := Option.some.inj h
    subst hr
    exact V_end_i hX rfl dX10_drop_15
set_option maxHeartbeats 4000000 in
theorem con_m_undo (N : Nat) (g : GS) (r : (Int × GS)) (h : m_undo N g = some r) : Con yX10_undo cX10_undo 1 (some .int) 2 35 Km (fun b => [.ref (b + 0)]) g (fun _ => some (vI r.1)) r.2 := by
  refine Con.of RX10 (by decide) rfl (fun b => Nat.le_of_ble_eq_true rfl) (fun x sz hX => ?_)
  have X := hX.1
  unfold m_undo at h
  show V x 1 Km 0 0 sz g 0 [(0, .ref (xb x + 0))] []
  refine V_aload_n X dX10_undo_0 0 rfl ?_
  refine V_iconst X dX10_undo_1 ?_
  refine putX10 X (o := 0) (j := 0) (a := 0) rfl (by decide) rfl rfl rfl q1548 dX10_undo_2 ?_
  refine V_aload_n X dX10_undo_5 0 rfl ?_
  refine getX10 X (o := 0) (j := 70) rfl (by decide) q1618 (fv_0 rfl) dX10_undo_6 ?_
  refine V_if_ne (tgt := 14) X dX10_undo_9 (by decide) h (fun h => ?_) (fun h => ?_)
  · refine V_aload_n X dX10_undo_14 0 rfl ?_
    refine V_dup X dX10_undo_15 rfl ?_
    refine getX10 X (o := 0) (j := 70) rfl (by decide) q1618 (fv_0 rfl) dX10_undo_16 ?_
    refine V_iconst X dX10_undo_19 ?_
    refine V_isub X dX10_undo_20 ?_
    refine putX10 X (o := 0) (j := 70) (a := ((gI (sI g 900 0 0) 970 0) - 1)) rfl (by decide) rfl rfl rfl q1618 dX10_undo_21 ?_
    refine V_aload_n X dX10_undo_24 0 rfl ?_
    refine V_aload_n X dX10_undo_25 0 rfl ?_
    refine getX10 X (o := 0) (j := 69) rfl (by decide) q1617 (fv_1 (i := 41) rfl rfl) dX10_undo_26 ?_
    refine V_bipush X dX10_undo_29 (by decide) ?_
    refine V_aload_n X dX10_undo_31 0 rfl ?_
    refine getX10 X (o := 0) (j := 70) rfl (by decide) q1618 (fv_0 rfl) dX10_undo_32 ?_
    refine V_imul X dX10_undo_35 ?_
    obtain ⟨c36, hc36, h⟩ := bind_some_eq h
    refine V_callV (As := [.ref (xb x + 41), vI (25 * (gI (sI (sI g 900 0 0) 970 0 ((gI (sI g 900 0 0) 970 0) - 1)) 970 0))]) (rest := []) (s1 := []) (o := 0) X (con_m_takesFrom N 41 500 ⟨rfl, (by decide)⟩ (sI (sI g 900 0 0) 970 0 ((gI (sI g 900 0 0) 970 0) - 1)) (25 * (gI (sI (sI g 900 0 0) 970 0 ((gI (sI g 900 0 0) 970 0) - 1)) 970 0)) c36 hc36) gwX10_takesFrom hdX10_takesFrom (by decide) rfl (by decide) rfl rfl rfl (Nat.le_of_ble_eq_true rfl) ⟨Nat.zero_le _, Nat.zero_le _⟩ dX10_undo_36 rfl rfl ?_
    refine V_aload_n X dX10_undo_39 0 rfl ?_
    refine getX10 X (o := 0) (j := 70) rfl (by decide) q1618 (fv_0 rfl) dX10_undo_40 ?_
    have hr := Option.some.inj h
    subst hr
    exact V_end_i hX rfl dX10_undo_43
  · refine V_iconst X dX10_undo_12 ?_
    have hr := Option.some.inj h
    subst hr
    exact V_end_i hX rfl dX10_undo_13
set_option maxHeartbeats 4000000 in
theorem con_m_image (N : Nat) (g : GS) (r : (Int × GS)) (h : m_image N g = some r) : Con yX10_image cX10_image 3 (some .int) 2 35 Km (fun b => [.ref (b + 0)]) g (fun _ => some (vI r.1)) r.2 := by
  refine Con.of RX10 (by decide) rfl (fun b => Nat.le_of_ble_eq_true rfl) (fun x sz hX => ?_)
  have X := hX.1
  have LL48 : ∀ (l1 : Int) (n : Nat) (s : (GS × Int)) (e : (GS)), loopN (fun s => m_image_b48 N l1 s.1 s.2) n s = some e → V x 3 Km 0 0 sz e 84 [(0, .ref (xb x + 0))] [] → V x 3 Km 0 0 sz s.1 48 [(0, .ref (xb x + 0)), (1, vI l1), (2, vI s.2)] [] := by
    intro l1 n s e
    refine loop_walk (P := fun s => V x 3 Km 0 0 sz s.1 48 [(0, .ref (xb x + 0)), (1, vI l1), (2, vI s.2)] []) (E := fun e => V x 3 Km 0 0 sz e 84 [(0, .ref (xb x + 0))] []) ?_ n s e
    clear e s n
    rintro ⟨g, l2⟩ q48 h hc48 he48
    replace h : m_image_b48 N l1 g l2 = some q48 := h
    unfold m_image_b48 at h
    show V x 3 Km 0 0 sz g 48 [(0, .ref (xb x + 0)), (1, vI l1), (2, vI l2)] []
    refine V_iload_n X dX10_image_48 2 rfl ?_
    refine V_bipush X dX10_image_49 (by decide) ?_
    refine V_aload_n X dX10_image_51 0 rfl ?_
    refine getX10 X (o := 0) (j := 70) rfl (by decide) q1618 (fv_0 rfl) dX10_image_52 ?_
    refine V_imul X dX10_image_55 ?_
    refine V_icmp_ge (tgt := 84) X dX10_image_56 (by decide) h (fun h => ?_) (fun h => ?_)
    · exact V_sub [0] rfl (he48 _ (Option.some.inj h).symm)
    · refine V_aload_n X dX10_image_59 0 rfl ?_
      refine getX10 X (o := 0) (j := 71) rfl (by decide) q1619 (fv_1 (i := 42) rfl rfl) dX10_image_60 ?_
      refine V_iload_n X dX10_image_63 1 rfl ?_
      refine V_bipush X dX10_image_64 (by decide) ?_
      refine V_iadd X dX10_image_66 ?_
      refine V_iconst X dX10_image_67 ?_
      refine V_iadd X dX10_image_68 ?_
      refine V_iload_n X dX10_image_69 2 rfl ?_
      refine V_iadd X dX10_image_70 ?_
      refine V_aload_n X dX10_image_71 0 rfl ?_
      refine getX10 X (o := 0) (j := 69) rfl (by decide) q1617 (fv_1 (i := 41) rfl rfl) dX10_image_72 ?_
      refine V_iload_n X dX10_image_75 2 rfl ?_
      refine V_iald X (o := 41) (n := 500) rfl (by decide) dX10_image_76 h (fun v76 h => ?_)
      refine V_iast X (o := 42) (n := 1578) rfl (by decide) dX10_image_77 h (fun g77 h => ?_)
      refine V_iinc X dX10_image_78 2 rfl (by decide) (L' := [(2, vI (l2 + 1)), (0, .ref (xb x + 0)), (1, vI l1)]) rfl ?_
      refine V_goto (tgt := 48) X dX10_image_81 (by decide) ?_
      exact V_sub [1, 2, 0] rfl (hc48 _ (Option.some.inj h).symm)
  unfold m_image at h
  show V x 3 Km 0 0 sz g 0 [(0, .ref (xb x + 0))] []
  refine V_aload_n X dX10_image_0 0 rfl ?_
  refine V_iconst X dX10_image_1 ?_
  refine putX10 X (o := 0) (j := 0) (a := 0) rfl (by decide) rfl rfl rfl q1548 dX10_image_2 ?_
  refine V_aload_n X dX10_image_5 0 rfl ?_
  refine getX10 X (o := 0) (j := 72) rfl (by decide) q1620 (fv_0 rfl) dX10_image_6 ?_
  refine V_iconst X dX10_image_9 ?_
  refine V_icmp_ne (tgt := 15) X dX10_image_10 (by decide) h (fun h => ?_) (fun h => ?_)
  · refine V_sipush X dX10_image_15 (by decide) ?_
    refine V_aload_n X dX10_image_18 0 rfl ?_
    refine getX10 X (o := 0) (j := 72) rfl (by decide) q1620 (fv_0 rfl) dX10_image_19 ?_
    refine V_imul X dX10_image_22 ?_
    refine V_istore_n X dX10_image_23 (by decide) (L' := [(1, vI (526 * (gI (sI g 900 0 0) 972 0))), (0, .ref (xb x + 0))]) rfl ?_
    refine V_aload_n X dX10_image_24 1 rfl ?_
    refine V_aload_n X dX10_image_25 1 rfl ?_
    refine getX10 X (o := 0) (j := 71) rfl (by decide) q1619 (fv_1 (i := 42) rfl rfl) dX10_image_26 ?_
    refine V_iload_n X dX10_image_29 0 rfl ?_
    obtain ⟨c30, hc30, h⟩ := bind_some_eq h
    refine V_callV (As := [.ref (xb x + 42), vI (526 * (gI (sI g 900 0 0) 972 0))]) (rest := []) (s1 := []) (o := 0) X (con_m_keepsIn N 42 1578 ⟨rfl, (by decide)⟩ (sI g 900 0 0) (526 * (gI (sI g 900 0 0) 972 0)) c30 hc30) gwX10_keepsIn hdX10_keepsIn (by decide) rfl (by decide) rfl rfl rfl (Nat.le_of_ble_eq_true rfl) ⟨Nat.zero_le _, Nat.zero_le _⟩ dX10_image_30 rfl rfl ?_
    refine V_aload_n X dX10_image_33 1 rfl ?_
    refine getX10 X (o := 0) (j := 71) rfl (by decide) q1619 (fv_1 (i := 42) rfl rfl) dX10_image_34 ?_
    refine V_iload_n X dX10_image_37 0 rfl ?_
    refine V_bipush X dX10_image_38 (by decide) ?_
    refine V_iadd X dX10_image_40 ?_
    refine V_aload_n X dX10_image_41 1 rfl ?_
    refine getX10 X (o := 0) (j := 70) rfl (by decide) q1618 (fv_0 rfl) dX10_image_42 ?_
    refine V_iast X (o := 42) (n := 1578) rfl (by decide) dX10_image_45 h (fun g45 h => ?_)
    refine V_iconst X dX10_image_46 ?_
    refine V_istore_n X dX10_image_47 (by decide) (L' := [(2, vI 0), (1, vI (526 * (gI (sI g 900 0 0) 972 0))), (0, .ref (xb x + 0))]) rfl ?_
    obtain ⟨t1, t1q, h⟩ := bind_some_eq h
    refine V_sub [2, 1, 0] rfl (LL48 (526 * (gI (sI g 900 0 0) 972 0)) N (g45, 0) _ t1q ?_)
    refine V_aload_n X dX10_image_84 0 rfl ?_
    refine V_dup X dX10_image_85 rfl ?_
    refine getX10 X (o := 0) (j := 72) rfl (by decide) q1620 (fv_0 rfl) dX10_image_86 ?_
    refine V_iconst X dX10_image_89 ?_
    refine V_iadd X dX10_image_90 ?_
    refine putX10 X (o := 0) (j := 72) (a := ((gI t1 972 0) + 1)) rfl (by decide) rfl rfl rfl q1620 dX10_image_91 ?_
    refine V_aload_n X dX10_image_94 0 rfl ?_
    refine getX10 X (o := 0) (j := 72) rfl (by decide) q1620 (fv_0 rfl) dX10_image_95 ?_
    have hr := Option.some.inj h
    subst hr
    exact V_end_i hX rfl dX10_image_98
  · refine V_iconst X dX10_image_13 ?_
    have hr := Option.some.inj h
    subst hr
    exact V_end_i hX rfl dX10_image_14
set_option maxHeartbeats 4000000 in
theorem con_m_restore (N : Nat) (g : GS) (r : (Int × GS)) (h : m_restore N g = some r) : Con yX10_restore cX10_restore 3 (some .int) 2 35 Km (fun b => [.ref (b + 0)]) g (fun _ => some (vI r.1)) r.2 := by
  refine Con.of RX10 (by decide) rfl (fun b => Nat.le_of_ble_eq_true rfl) (fun x sz hX => ?_)
  have X := hX.1
  have LL57 : ∀ (l1 : Int) (n : Nat) (s : (GS × Int)) (e : (Int × GS)), loopN (fun s => m_restore_b57 N l1 s.1 s.2) n s = some e → (e = r) → V x 3 Km 0 0 sz s.1 57 [(0, .ref (xb x + 0)), (1, vI l1), (2, vI s.2)] [] := by
    intro l1 n s e
    refine loop_walk (P := fun s => V x 3 Km 0 0 sz s.1 57 [(0, .ref (xb x + 0)), (1, vI l1), (2, vI s.2)] []) (E := fun e => e = r) ?_ n s e
    clear e s n
    rintro ⟨g, l2⟩ q57 h hc57 he57
    replace h : m_restore_b57 N l1 g l2 = some q57 := h
    unfold m_restore_b57 at h
    show V x 3 Km 0 0 sz g 57 [(0, .ref (xb x + 0)), (1, vI l1), (2, vI l2)] []
    refine V_iload_n X dX10_restore_57 2 rfl ?_
    refine V_bipush X dX10_restore_58 (by decide) ?_
    refine V_aload_n X dX10_restore_60 0 rfl ?_
    refine getX10 X (o := 0) (j := 70) rfl (by decide) q1618 (fv_0 rfl) dX10_restore_61 ?_
    refine V_imul X dX10_restore_64 ?_
    refine V_icmp_ge (tgt := 93) X dX10_restore_65 (by decide) h (fun h => ?_) (fun h => ?_)
    · obtain ⟨e1, h, e1q⟩ := outR_some h
      replace h := h.trans (congrArg some (he57 _ e1q))
      refine V_aload_n X dX10_restore_93 0 rfl ?_
      refine getX10 X (o := 0) (j := 72) rfl (by decide) q1620 (fv_0 rfl) dX10_restore_94 ?_
      have hr := Option.some.inj h
      subst hr
      exact V_end_i hX rfl dX10_restore_97
    · refine V_aload_n X dX10_restore_68 0 rfl ?_
      refine getX10 X (o := 0) (j := 69) rfl (by decide) q1617 (fv_1 (i := 41) rfl rfl) dX10_restore_69 ?_
      refine V_iload_n X dX10_restore_72 2 rfl ?_
      refine V_aload_n X dX10_restore_73 0 rfl ?_
      refine getX10 X (o := 0) (j := 71) rfl (by decide) q1619 (fv_1 (i := 42) rfl rfl) dX10_restore_74 ?_
      refine V_iload_n X dX10_restore_77 1 rfl ?_
      refine V_bipush X dX10_restore_78 (by decide) ?_
      refine V_iadd X dX10_restore_80 ?_
      refine V_iconst X dX10_restore_81 ?_
      refine V_iadd X dX10_restore_82 ?_
      refine V_iload_n X dX10_restore_83 2 rfl ?_
      refine V_iadd X dX10_restore_84 ?_
      refine V_iald X (o := 42) (n := 1578) rfl (by decide) dX10_restore_85 h (fun v85 h => ?_)
      refine V_iast X (o := 41) (n := 500) rfl (by decide) dX10_restore_86 h (fun g86 h => ?_)
      refine V_iinc X dX10_restore_87 2 rfl (by decide) (L' := [(2, vI (l2 + 1)), (0, .ref (xb x + 0)), (1, vI l1)]) rfl ?_
      refine V_goto (tgt := 57) X dX10_restore_90 (by decide) ?_
      exact V_sub [1, 2, 0] rfl (hc57 _ (Option.some.inj h).symm)
  unfold m_restore at h
  show V x 3 Km 0 0 sz g 0 [(0, .ref (xb x + 0))] []
  refine V_aload_n X dX10_restore_0 0 rfl ?_
  refine V_iconst X dX10_restore_1 ?_
  refine putX10 X (o := 0) (j := 0) (a := 0) rfl (by decide) rfl rfl rfl q1548 dX10_restore_2 ?_
  refine V_aload_n X dX10_restore_5 0 rfl ?_
  refine getX10 X (o := 0) (j := 72) rfl (by decide) q1620 (fv_0 rfl) dX10_restore_6 ?_
  refine V_if_ne (tgt := 14) X dX10_restore_9 (by decide) h (fun h => ?_) (fun h => ?_)
  · refine V_aload_n X dX10_restore_14 0 rfl ?_
    refine V_dup X dX10_restore_15 rfl ?_
    refine getX10 X (o := 0) (j := 72) rfl (by decide) q1620 (fv_0 rfl) dX10_restore_16 ?_
    refine V_iconst X dX10_restore_19 ?_
    refine V_isub X dX10_restore_20 ?_
    refine putX10 X (o := 0) (j := 72) (a := ((gI (sI g 900 0 0) 972 0) - 1)) rfl (by decide) rfl rfl rfl q1620 dX10_restore_21 ?_
    refine V_sipush X dX10_restore_24 (by decide) ?_
    refine V_aload_n X dX10_restore_27 0 rfl ?_
    refine getX10 X (o := 0) (j := 72) rfl (by decide) q1620 (fv_0 rfl) dX10_restore_28 ?_
    refine V_imul X dX10_restore_31 ?_
    refine V_istore_n X dX10_restore_32 (by decide) (L' := [(1, vI (526 * (gI (sI (sI g 900 0 0) 972 0 ((gI (sI g 900 0 0) 972 0) - 1)) 972 0))), (0, .ref (xb x + 0))]) rfl ?_
    refine V_aload_n X dX10_restore_33 1 rfl ?_
    refine V_aload_n X dX10_restore_34 1 rfl ?_
    refine getX10 X (o := 0) (j := 71) rfl (by decide) q1619 (fv_1 (i := 42) rfl rfl) dX10_restore_35 ?_
    refine V_iload_n X dX10_restore_38 0 rfl ?_
    obtain ⟨c39, hc39, h⟩ := bind_some_eq h
    refine V_callV (As := [.ref (xb x + 42), vI (526 * (gI (sI (sI g 900 0 0) 972 0 ((gI (sI g 900 0 0) 972 0) - 1)) 972 0))]) (rest := []) (s1 := []) (o := 0) X (con_m_takesFrom N 42 1578 ⟨rfl, (by decide)⟩ (sI (sI g 900 0 0) 972 0 ((gI (sI g 900 0 0) 972 0) - 1)) (526 * (gI (sI (sI g 900 0 0) 972 0 ((gI (sI g 900 0 0) 972 0) - 1)) 972 0)) c39 hc39) gwX10_takesFrom hdX10_takesFrom (by decide) rfl (by decide) rfl rfl rfl (Nat.le_of_ble_eq_true rfl) ⟨Nat.zero_le _, Nat.zero_le _⟩ dX10_restore_39 rfl rfl ?_
    refine V_aload_n X dX10_restore_42 1 rfl ?_
    refine V_aload_n X dX10_restore_43 1 rfl ?_
    refine getX10 X (o := 0) (j := 71) rfl (by decide) q1619 (fv_1 (i := 42) rfl rfl) dX10_restore_44 ?_
    refine V_iload_n X dX10_restore_47 0 rfl ?_
    refine V_bipush X dX10_restore_48 (by decide) ?_
    refine V_iadd X dX10_restore_50 ?_
    refine V_iald X (o := 42) (n := 1578) rfl (by decide) dX10_restore_51 h (fun v51 h => ?_)
    refine putX10 X (o := 0) (j := 70) (a := v51) rfl (by decide) rfl rfl rfl q1618 dX10_restore_52 ?_
    refine V_iconst X dX10_restore_55 ?_
    refine V_istore_n X dX10_restore_56 (by decide) (L' := [(2, vI 0), (1, vI (526 * (gI (sI (sI g 900 0 0) 972 0 ((gI (sI g 900 0 0) 972 0) - 1)) 972 0))), (0, .ref (xb x + 0))]) rfl ?_
    exact V_sub [2, 1, 0] rfl (LL57 (526 * (gI (sI (sI g 900 0 0) 972 0 ((gI (sI g 900 0 0) 972 0) - 1)) 972 0)) N ((sI c39 970 0 v51), 0) _ h rfl)
  · refine V_iconst X dX10_restore_12 ?_
    have hr := Option.some.inj h
    subst hr
    exact V_end_i hX rfl dX10_restore_13
set_option maxHeartbeats 4000000 in
theorem con_m_status (g : GS) (l1 : Int) (r : (Int × GS)) (h : m_status g l1 = some r) : Con yX10_status cX10_status 2 (some .int) 2 34 Km (fun b => [.ref (b + 0), vI l1]) g (fun _ => some (vI r.1)) r.2 := by
  refine Con.of RX10 (by decide) rfl (fun b => Nat.le_of_ble_eq_true rfl) (fun x sz hX => ?_)
  have X := hX.1
  unfold m_status at h
  show V x 2 Km 0 0 sz g 0 [(0, .ref (xb x + 0)), (1, vI l1)] []
  refine V_aload_n X dX10_status_0 0 rfl ?_
  refine V_iconst X dX10_status_1 ?_
  refine putX10 X (o := 0) (j := 0) (a := 0) rfl (by decide) rfl rfl rfl q1548 dX10_status_2 ?_
  refine V_iload_n X dX10_status_5 1 rfl ?_
  refine V_iconst X dX10_status_6 ?_
  refine V_iconst X dX10_status_7 ?_
  obtain ⟨c8, hc8, h⟩ := bind_some_eq h
  refine V_callS (As := [vI l1, vI 0, vI 2]) (rest := []) (s1 := [vI c8]) X (con_m_within (sI g 900 0 0) l1 0 2 c8 hc8) gwX10_within hdX10_within (by decide) rfl rfl (Nat.le_of_ble_eq_true rfl) ⟨Nat.zero_le _, Nat.zero_le _⟩ dX10_status_8 rfl rfl ?_
  refine V_if_eq (tgt := 23) X dX10_status_11 (by decide) h (fun h => ?_) (fun h => ?_)
  · refine V_iconst X dX10_status_23 ?_
    have hr := Option.some.inj h
    subst hr
    exact V_end_i hX rfl dX10_status_24
  · refine V_aload_n X dX10_status_14 0 rfl ?_
    refine getX10 X (o := 0) (j := 1) rfl (by decide) q1549 (fv_1 (i := 1) rfl rfl) dX10_status_15 ?_
    refine V_iload_n X dX10_status_18 1 rfl ?_
    refine V_iald X (o := 1) (n := 3) rfl (by decide) dX10_status_19 h (fun v19 h => ?_)
    refine V_goto (tgt := 24) X dX10_status_20 (by decide) ?_
    have hr := Option.some.inj h
    subst hr
    exact V_end_i hX rfl dX10_status_24
set_option maxHeartbeats 4000000 in
theorem con_m_count (g : GS) (l1 : Int) (r : (Int × GS)) (h : m_count g l1 = some r) : Con yX10_count cX10_count 2 (some .int) 1 12 Km (fun b => [.ref (b + 0), vI l1]) g (fun _ => some (vI r.1)) r.2 := by
  refine Con.of RX10 (by decide) rfl (fun b => Nat.le_of_ble_eq_true rfl) (fun x sz hX => ?_)
  have X := hX.1
  unfold m_count at h
  show V x 2 Km 0 0 sz g 0 [(0, .ref (xb x + 0)), (1, vI l1)] []
  refine V_aload_n X dX10_count_0 0 rfl ?_
  refine V_iconst X dX10_count_1 ?_
  refine putX10 X (o := 0) (j := 0) (a := 0) rfl (by decide) rfl rfl rfl q1548 dX10_count_2 ?_
  refine V_iload_n X dX10_count_5 1 rfl ?_
  refine V_if_ne (tgt := 16) X dX10_count_6 (by decide) h (fun h => ?_) (fun h => ?_)
  · refine V_iload_n X dX10_count_16 1 rfl ?_
    refine V_iconst X dX10_count_17 ?_
    refine V_icmp_ne (tgt := 28) X dX10_count_18 (by decide) h (fun h => ?_) (fun h => ?_)
    · refine V_iload_n X dX10_count_28 1 rfl ?_
      refine V_iconst X dX10_count_29 ?_
      refine V_icmp_ne (tgt := 40) X dX10_count_30 (by decide) h (fun h => ?_) (fun h => ?_)
      · refine V_iconst X dX10_count_40 ?_
        have hr := Option.some.inj h
        subst hr
        exact V_end_i hX rfl dX10_count_41
      · refine V_aload_n X dX10_count_33 0 rfl ?_
        refine getX10 X (o := 0) (j := 70) rfl (by decide) q1618 (fv_0 rfl) dX10_count_34 ?_
        refine V_goto (tgt := 41) X dX10_count_37 (by decide) ?_
        have hr := Option.some.inj h
        subst hr
        exact V_end_i hX rfl dX10_count_41
    · refine V_aload_n X dX10_count_21 0 rfl ?_
      refine getX10 X (o := 0) (j := 2) rfl (by decide) q1550 (fv_0 rfl) dX10_count_22 ?_
      refine V_goto (tgt := 41) X dX10_count_25 (by decide) ?_
      have hr := Option.some.inj h
      subst hr
      exact V_end_i hX rfl dX10_count_41
  · refine V_aload_n X dX10_count_9 0 rfl ?_
    refine getX10 X (o := 0) (j := 72) rfl (by decide) q1620 (fv_0 rfl) dX10_count_10 ?_
    refine V_goto (tgt := 41) X dX10_count_13 (by decide) ?_
    have hr := Option.some.inj h
    subst hr
    exact V_end_i hX rfl dX10_count_41
