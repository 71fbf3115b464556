set_option maxRecDepth 100000
theorem q1768 : (Jvm.Cond.arrayClass Jvm.ClassFile.FieldType.boolean) ∈ lw_all := lw_g (lw_at lw_m7 233 rfl) rfl
theorem pfd_AZ : parseFieldDescriptor "[Z" = some (.array .boolean) := by decide +kernel
theorem mi_dn (K0 : Nat → Nat) (g : GS) : dnOK 9 0 (mi_K K0) (mi_g g) := by
  refine ⟨fun j hj => ?_, fun j hj => absurd hj (Nat.not_lt_zero _)⟩
  match j, hj with
  | 0, _ => exact ⟨fun h => absurd h (by decide), fun h => absurd h (by decide)⟩
  | 1, _ => exact ⟨fun _ => rfl, fun h => absurd h (by decide)⟩
  | 2, _ => exact ⟨fun h => absurd h (by decide), fun h => absurd h (by decide)⟩
  | 3, _ => exact ⟨fun h => absurd h (by decide), fun h => absurd h (by decide)⟩
  | 4, _ => exact ⟨fun h => absurd h (by decide), fun h => absurd h (by decide)⟩
  | 5, _ => exact ⟨fun h => absurd h (by decide), fun h => absurd h (by decide)⟩
  | 6, _ => exact ⟨fun h => absurd h (by decide), fun h => absurd h (by decide)⟩
  | 7, _ => exact ⟨fun h => absurd h (by decide), fun h => absurd h (by decide)⟩
  | 8, _ => exact ⟨fun h => absurd h (by decide), fun h => absurd h (by decide)⟩
  | 9, _ => exact ⟨fun _ => rfl, fun h => absurd h (by decide)⟩
  | 10, _ => exact ⟨fun _ => rfl, fun h => absurd h (by decide)⟩
  | 11, _ => exact ⟨fun _ => rfl, fun h => absurd h (by decide)⟩
  | 12, _ => exact ⟨fun _ => rfl, fun h => absurd h (by decide)⟩
  | 13, _ => exact ⟨fun _ => rfl, fun h => absurd h (by decide)⟩
  | 14, _ => exact ⟨fun _ => rfl, fun h => absurd h (by decide)⟩
  | 15, _ => exact ⟨fun _ => rfl, fun h => absurd h (by decide)⟩
  | 16, _ => exact ⟨fun _ => rfl, fun h => absurd h (by decide)⟩
  | 17, _ => exact ⟨fun _ => rfl, fun h => absurd h (by decide)⟩
  | 18, _ => exact ⟨fun _ => rfl, fun h => absurd h (by decide)⟩
  | 19, _ => exact ⟨fun _ => rfl, fun h => absurd h (by decide)⟩
  | 20, _ => exact ⟨fun _ => rfl, fun h => absurd h (by decide)⟩
  | 21, _ => exact ⟨fun _ => rfl, fun h => absurd h (by decide)⟩
  | 22, _ => exact ⟨fun _ => rfl, fun h => absurd h (by decide)⟩
  | 23, _ => exact ⟨fun _ => rfl, fun h => absurd h (by decide)⟩
  | 24, _ => exact ⟨fun _ => rfl, fun h => absurd h (by decide)⟩
  | 25, _ => exact ⟨fun _ => rfl, fun h => absurd h (by decide)⟩
  | 26, _ => exact ⟨fun h => absurd h (by decide), fun h => absurd h (by decide)⟩
  | 27, _ => exact ⟨fun h => absurd h (by decide), fun h => absurd h (by decide)⟩
  | 28, _ => exact ⟨fun h => absurd h (by decide), fun h => absurd h (by decide)⟩
  | 29, _ => exact ⟨fun h => absurd h (by decide), fun h => absurd h (by decide)⟩
  | 30, _ => exact ⟨fun h => absurd h (by decide), fun h => absurd h (by decide)⟩
  | 31, _ => exact ⟨fun h => absurd h (by decide), fun h => absurd h (by decide)⟩
  | 32, _ => exact ⟨fun h => absurd h (by decide), fun h => absurd h (by decide)⟩
  | 33, _ => exact ⟨fun h => absurd h (by decide), fun h => absurd h (by decide)⟩
  | 34, _ => exact ⟨fun h => absurd h (by decide), fun h => absurd h (by decide)⟩
  | 35, _ => exact ⟨fun h => absurd h (by decide), fun h => absurd h (by decide)⟩
  | 36, _ => exact ⟨fun h => absurd h (by decide), fun h => absurd h (by decide)⟩
  | 37, _ => exact ⟨fun _ => rfl, fun h => absurd h (by decide)⟩
  | 38, _ => exact ⟨fun _ => rfl, fun h => absurd h (by decide)⟩
  | 39, _ => exact ⟨fun _ => rfl, fun h => absurd h (by decide)⟩
  | 40, _ => exact ⟨fun _ => rfl, fun h => absurd h (by decide)⟩
  | 41, _ => exact ⟨fun _ => rfl, fun h => absurd h (by decide)⟩
  | 42, _ => exact ⟨fun h => absurd h (by decide), fun h => absurd h (by decide)⟩
  | 43, _ => exact ⟨fun h => absurd h (by decide), fun h => absurd h (by decide)⟩
  | 44, _ => exact ⟨fun _ => rfl, fun h => absurd h (by decide)⟩
  | 45, _ => exact ⟨fun _ => rfl, fun h => absurd h (by decide)⟩
  | 46, _ => exact ⟨fun _ => rfl, fun h => absurd h (by decide)⟩
  | 47, _ => exact ⟨fun _ => rfl, fun h => absurd h (by decide)⟩
  | 48, _ => exact ⟨fun _ => rfl, fun h => absurd h (by decide)⟩
  | 49, _ => exact ⟨fun h => absurd h (by decide), fun h => absurd h (by decide)⟩
  | 50, _ => exact ⟨fun h => absurd h (by decide), fun h => absurd h (by decide)⟩
  | 51, _ => exact ⟨fun _ => rfl, fun h => absurd h (by decide)⟩
  | 52, _ => exact ⟨fun _ => rfl, fun h => absurd h (by decide)⟩
  | 53, _ => exact ⟨fun _ => rfl, fun h => absurd h (by decide)⟩
  | 54, _ => exact ⟨fun _ => rfl, fun h => absurd h (by decide)⟩
  | 55, _ => exact ⟨fun _ => rfl, fun h => absurd h (by decide)⟩
  | 56, _ => exact ⟨fun _ => rfl, fun h => absurd h (by decide)⟩
  | 57, _ => exact ⟨fun _ => rfl, fun h => absurd h (by decide)⟩
  | 58, _ => exact ⟨fun h => absurd h (by decide), fun h => absurd h (by decide)⟩
  | 59, _ => exact ⟨fun _ => rfl, fun h => absurd h (by decide)⟩
  | 60, _ => exact ⟨fun _ => rfl, fun h => absurd h (by decide)⟩
  | 61, _ => exact ⟨fun _ => rfl, fun h => absurd h (by decide)⟩
  | 62, _ => exact ⟨fun _ => rfl, fun h => absurd h (by decide)⟩
  | 63, _ => exact ⟨fun h => absurd h (by decide), fun h => absurd h (by decide)⟩
  | 64, _ => exact ⟨fun h => absurd h (by decide), fun h => absurd h (by decide)⟩
  | 65, _ => exact ⟨fun h => absurd h (by decide), fun h => absurd h (by decide)⟩
  | 66, _ => exact ⟨fun h => absurd h (by decide), fun h => absurd h (by decide)⟩
  | 67, _ => exact ⟨fun _ => rfl, fun h => absurd h (by decide)⟩
  | 68, _ => exact ⟨fun h => absurd h (by decide), fun h => absurd h (by decide)⟩
  | 69, _ => exact ⟨fun _ => rfl, fun h => absurd h (by decide)⟩
  | 70, _ => exact ⟨fun h => absurd h (by decide), fun h => absurd h (by decide)⟩
  | 71, _ => exact ⟨fun _ => rfl, fun h => absurd h (by decide)⟩
  | 72, _ => exact ⟨fun h => absurd h (by decide), fun h => absurd h (by decide)⟩
  | 73, _ => exact ⟨fun h => absurd h (by decide), fun h => absurd h (by decide)⟩
  | 74, _ => exact ⟨fun h => absurd h (by decide), fun h => absurd h (by decide)⟩
  | 75, _ => exact ⟨fun h => absurd h (by decide), fun h => absurd h (by decide)⟩
  | 76, _ => exact ⟨fun h => absurd h (by decide), fun h => absurd h (by decide)⟩
  | 77, _ => exact ⟨fun h => absurd h (by decide), fun h => absurd h (by decide)⟩
  | 78, _ => exact ⟨fun h => absurd h (by decide), fun h => absurd h (by decide)⟩
  | 79, _ => exact ⟨fun h => absurd h (by decide), fun h => absurd h (by decide)⟩
  | (n + 80), h => exact absurd h (by omega)
theorem mi_Keq (K0 : Nat → Nat) (h0 : ∀ o, 1 ≤ o → K0 o = 0) : ku (mi_K K0) 0 10 = Km := by
  funext o
  by_cases h : o < 43
  · match o, h with
    | 0, _ => rfl
    | 1, _ => rfl
    | 2, _ => rfl
    | 3, _ => rfl
    | 4, _ => rfl
    | 5, _ => rfl
    | 6, _ => rfl
    | 7, _ => rfl
    | 8, _ => rfl
    | 9, _ => rfl
    | 10, _ => rfl
    | 11, _ => rfl
    | 12, _ => rfl
    | 13, _ => rfl
    | 14, _ => rfl
    | 15, _ => rfl
    | 16, _ => rfl
    | 17, _ => rfl
    | 18, _ => rfl
    | 19, _ => rfl
    | 20, _ => rfl
    | 21, _ => rfl
    | 22, _ => rfl
    | 23, _ => rfl
    | 24, _ => rfl
    | 25, _ => rfl
    | 26, _ => rfl
    | 27, _ => rfl
    | 28, _ => rfl
    | 29, _ => rfl
    | 30, _ => rfl
    | 31, _ => rfl
    | 32, _ => rfl
    | 33, _ => rfl
    | 34, _ => rfl
    | 35, _ => rfl
    | 36, _ => rfl
    | 37, _ => rfl
    | 38, _ => rfl
    | 39, _ => rfl
    | 40, _ => rfl
    | 41, _ => rfl
    | 42, _ => rfl
    | (n + 43), h => exact absurd h (by omega)
  · have e : Km o = 0 := by
      show kmL.getD o 0 = 0
      rw [List.getD_eq_getElem?_getD, List.getElem?_eq_none (by show 43 ≤ o; omega)]
      rfl
    rw [e]
    unfold mi_K
    rw [ku_ne (by omega), ku_ne (by omega), ku_ne (by omega), ku_ne (by omega), ku_ne (by omega), ku_ne (by omega), ku_ne (by omega), ku_ne (by omega), ku_ne (by omega), ku_ne (by omega), ku_ne (by omega), ku_ne (by omega), ku_ne (by omega), ku_ne (by omega), ku_ne (by omega), ku_ne (by omega), ku_ne (by omega), ku_ne (by omega), ku_ne (by omega), ku_ne (by omega), ku_ne (by omega), ku_ne (by omega), ku_ne (by omega), ku_ne (by omega), ku_ne (by omega), ku_ne (by omega), ku_ne (by omega), ku_ne (by omega), ku_ne (by omega), ku_ne (by omega), ku_ne (by omega), ku_ne (by omega), ku_ne (by omega), ku_ne (by omega), ku_ne (by omega), ku_ne (by omega), ku_ne (by omega), ku_ne (by omega), ku_ne (by omega), ku_ne (by omega), ku_ne (by omega), ku_ne (by omega), ku_ne (by omega)]
    exact h0 o (by omega)
theorem gwI10_clears : GoodIn lw_all (wsV RX10 144 RX10 yX10_clears (ws_ yX10_clears cX10_clears 2 none)) := lw_V q1536 q1538 qs36 q105 q1539
theorem hdI10_clears : yX10_clears.cls = RX10 ∧ yX10_clears.cls ≠ "java/lang/invoke/MethodHandle" ∧ yX10_clears.cls ≠ "java/lang/invoke/VarHandle" ∧ (parseMethodDescriptor yX10_clears.desc).map (fun d => d.parameters.length) = some 0 := by decide +kernel
theorem gwI10_sets : GoodIn lw_all (wsV RX10 147 RX10 yX10_sets (ws_ yX10_sets cX10_sets 2 none)) := lw_V q1540 q1542 qs37 q105 q1543
theorem hdI10_sets : yX10_sets.cls = RX10 ∧ yX10_sets.cls ≠ "java/lang/invoke/MethodHandle" ∧ yX10_sets.cls ≠ "java/lang/invoke/VarHandle" ∧ (parseMethodDescriptor yX10_sets.desc).map (fun d => d.parameters.length) = some 0 := by decide +kernel
set_option maxHeartbeats 4000000 in
theorem con_m_init (N : Nat) (K0 : Nat → Nat) (hK : K0 0 = 27) (h0 : ∀ o, 1 ≤ o → K0 o = 0) (g : GS) (r : GS) (h : m_init N g = some r) : ConB yX10_init cX10_init 1 none 20 2000 42 7607 1 K0 (fun b => [.ref (b + 0)]) g (fun _ => none) Km 43 r := by
  refine ConB.of RX10 (by decide) rfl (fun b => Nat.le_of_ble_eq_true rfl) (fun x hX hnm => ?_)
  have X := hX.1
  show V x 1 K0 0 0 1 g 0 [(0, .ref (xb x + 0))] []
  refine V_aload_n X dX10_init_0 0 rfl ?_
  refine V_objI X q1535 (by decide) dX10_init_1 ?_
  refine V_aload_n X dX10_init_4 0 rfl ?_
  refine V_iconst X dX10_init_5 ?_
  refine V_newarr (at' := .int) (t := 0) (N := 3) X (by decide) rfl q168 (by decide) (by rw [hX.2.2]; exact Or.inr (Nat.add_le_add_left (Nat.le_of_ble_eq_true rfl) _)) ⟨Nat.le_of_ble_eq_true rfl, Nat.le_of_ble_eq_true rfl⟩ dX10_init_6 ?_
  have hK := (show ku _ 1 10003 0 = 27 from (ku_ne (by decide)).trans hK)
  refine V_putF (ty := (.array .int)) (ci := 26) (N := 73) (C := RX10) (T := TX10) (o := 0) (j := 1) (a := ((1 : Nat) : Int)) X hnm rfl in_X10 tyX10 tyX10_ok nmX10 (by decide) hK (by decide) rfl rfl pfd_AI rfl rfl q1549 (fv_3i rfl (by rw [gI_sI, if_pos ⟨rfl, rfl⟩])) dX10_init_8 ?_
  refine V_aload_n X dX10_init_11 0 rfl ?_
  refine V_iconst X dX10_init_12 ?_
  refine V_put (ty := .int) (ci := 26) (N := 73) (C := RX10) (T := TX10) (o := 0) (j := 8) (a := (-1)) X rfl in_X10 tyX10 tyX10_ok nmX10 (by decide) hK (by decide) rfl pfd_I rfl rfl q1556 (by rw [fv_0 rfl, gI_sI, if_pos ⟨rfl, rfl⟩]) dX10_init_13 ?_
  refine V_aload_n X dX10_init_16 0 rfl ?_
  refine V_sipush X dX10_init_17 (by decide) ?_
  refine V_newarr (at' := .int) (t := 0) (N := 600) X (by decide) rfl q168 (by decide) (by rw [hX.2.2]; exact Or.inr (Nat.add_le_add_left (Nat.le_of_ble_eq_true rfl) _)) ⟨Nat.le_of_ble_eq_true rfl, Nat.le_of_ble_eq_true rfl⟩ dX10_init_20 ?_
  have hK := (show ku _ (1 + 1) 10600 0 = 27 from (ku_ne (by decide)).trans hK)
  refine V_putF (ty := (.array .int)) (ci := 26) (N := 73) (C := RX10) (T := TX10) (o := 0) (j := 9) (a := ((2 : Nat) : Int)) X hnm rfl in_X10 tyX10 tyX10_ok nmX10 (by decide) hK (by decide) rfl rfl pfd_AI rfl rfl q1557 (fv_3i rfl (by rw [gI_sI, if_pos ⟨rfl, rfl⟩])) dX10_init_22 ?_
  refine V_aload_n X dX10_init_25 0 rfl ?_
  refine V_iconst X dX10_init_26 ?_
  refine V_newarr (at' := .int) (t := 0) (N := 4) X (by decide) rfl q168 (by decide) (by rw [hX.2.2]; exact Or.inr (Nat.add_le_add_left (Nat.le_of_ble_eq_true rfl) _)) ⟨Nat.le_of_ble_eq_true rfl, Nat.le_of_ble_eq_true rfl⟩ dX10_init_27 ?_
  have hK := (show ku _ ((1 + 1) + 1) 10004 0 = 27 from (ku_ne (by decide)).trans hK)
  refine V_putF (ty := (.array .int)) (ci := 26) (N := 73) (C := RX10) (T := TX10) (o := 0) (j := 10) (a := ((3 : Nat) : Int)) X hnm rfl in_X10 tyX10 tyX10_ok nmX10 (by decide) hK (by decide) rfl rfl pfd_AI rfl rfl q1558 (fv_3i rfl (by rw [gI_sI, if_pos ⟨rfl, rfl⟩])) dX10_init_29 ?_
  refine V_aload_n X dX10_init_32 0 rfl ?_
  refine V_bipush X dX10_init_33 (by decide) ?_
  refine V_newarr (at' := .int) (t := 0) (N := 60) X (by decide) rfl q168 (by decide) (by rw [hX.2.2]; exact Or.inr (Nat.add_le_add_left (Nat.le_of_ble_eq_true rfl) _)) ⟨Nat.le_of_ble_eq_true rfl, Nat.le_of_ble_eq_true rfl⟩ dX10_init_35 ?_
  have hK := (show ku _ (((1 + 1) + 1) + 1) 10060 0 = 27 from (ku_ne (by decide)).trans hK)
  refine V_putF (ty := (.array .int)) (ci := 26) (N := 73) (C := RX10) (T := TX10) (o := 0) (j := 11) (a := ((4 : Nat) : Int)) X hnm rfl in_X10 tyX10 tyX10_ok nmX10 (by decide) hK (by decide) rfl rfl pfd_AI rfl rfl q1559 (fv_3i rfl (by rw [gI_sI, if_pos ⟨rfl, rfl⟩])) dX10_init_37 ?_
  refine V_aload_n X dX10_init_40 0 rfl ?_
  refine V_bipush X dX10_init_41 (by decide) ?_
  refine V_newarr (at' := .int) (t := 0) (N := 60) X (by decide) rfl q168 (by decide) (by rw [hX.2.2]; exact Or.inr (Nat.add_le_add_left (Nat.le_of_ble_eq_true rfl) _)) ⟨Nat.le_of_ble_eq_true rfl, Nat.le_of_ble_eq_true rfl⟩ dX10_init_43 ?_
  have hK := (show ku _ ((((1 + 1) + 1) + 1) + 1) 10060 0 = 27 from (ku_ne (by decide)).trans hK)
  refine V_putF (ty := (.array .int)) (ci := 26) (N := 73) (C := RX10) (T := TX10) (o := 0) (j := 12) (a := ((5 : Nat) : Int)) X hnm rfl in_X10 tyX10 tyX10_ok nmX10 (by decide) hK (by decide) rfl rfl pfd_AI rfl rfl q1560 (fv_3i rfl (by rw [gI_sI, if_pos ⟨rfl, rfl⟩])) dX10_init_45 ?_
  refine V_aload_n X dX10_init_48 0 rfl ?_
  refine V_bipush X dX10_init_49 (by decide) ?_
  refine V_newarr (at' := .int) (t := 0) (N := 6) X (by decide) rfl q168 (by decide) (by rw [hX.2.2]; exact Or.inr (Nat.add_le_add_left (Nat.le_of_ble_eq_true rfl) _)) ⟨Nat.le_of_ble_eq_true rfl, Nat.le_of_ble_eq_true rfl⟩ dX10_init_51 ?_
  have hK := (show ku _ (((((1 + 1) + 1) + 1) + 1) + 1) 10006 0 = 27 from (ku_ne (by decide)).trans hK)
  refine V_putF (ty := (.array .int)) (ci := 26) (N := 73) (C := RX10) (T := TX10) (o := 0) (j := 13) (a := ((6 : Nat) : Int)) X hnm rfl in_X10 tyX10 tyX10_ok nmX10 (by decide) hK (by decide) rfl rfl pfd_AI rfl rfl q1561 (fv_3i rfl (by rw [gI_sI, if_pos ⟨rfl, rfl⟩])) dX10_init_53 ?_
  refine V_aload_n X dX10_init_56 0 rfl ?_
  refine V_bipush X dX10_init_57 (by decide) ?_
  refine V_newarr (at' := .int) (t := 0) (N := 8) X (by decide) rfl q168 (by decide) (by rw [hX.2.2]; exact Or.inr (Nat.add_le_add_left (Nat.le_of_ble_eq_true rfl) _)) ⟨Nat.le_of_ble_eq_true rfl, Nat.le_of_ble_eq_true rfl⟩ dX10_init_59 ?_
  have hK := (show ku _ ((((((1 + 1) + 1) + 1) + 1) + 1) + 1) 10008 0 = 27 from (ku_ne (by decide)).trans hK)
  refine V_putF (ty := (.array .int)) (ci := 26) (N := 73) (C := RX10) (T := TX10) (o := 0) (j := 14) (a := ((7 : Nat) : Int)) X hnm rfl in_X10 tyX10 tyX10_ok nmX10 (by decide) hK (by decide) rfl rfl pfd_AI rfl rfl q1562 (fv_3i rfl (by rw [gI_sI, if_pos ⟨rfl, rfl⟩])) dX10_init_61 ?_
  refine V_aload_n X dX10_init_64 0 rfl ?_
  refine V_bipush X dX10_init_65 (by decide) ?_
  refine V_newarr (at' := .int) (t := 0) (N := 16) X (by decide) rfl q168 (by decide) (by rw [hX.2.2]; exact Or.inr (Nat.add_le_add_left (Nat.le_of_ble_eq_true rfl) _)) ⟨Nat.le_of_ble_eq_true rfl, Nat.le_of_ble_eq_true rfl⟩ dX10_init_67 ?_
  have hK := (show ku _ (((((((1 + 1) + 1) + 1) + 1) + 1) + 1) + 1) 10016 0 = 27 from (ku_ne (by decide)).trans hK)
  refine V_putF (ty := (.array .int)) (ci := 26) (N := 73) (C := RX10) (T := TX10) (o := 0) (j := 15) (a := ((8 : Nat) : Int)) X hnm rfl in_X10 tyX10 tyX10_ok nmX10 (by decide) hK (by decide) rfl rfl pfd_AI rfl rfl q1563 (fv_3i rfl (by rw [gI_sI, if_pos ⟨rfl, rfl⟩])) dX10_init_69 ?_
  refine V_aload_n X dX10_init_72 0 rfl ?_
  refine V_iconst X dX10_init_73 ?_
  refine V_newarr (at' := .int) (t := 0) (N := 4) X (by decide) rfl q168 (by decide) (by rw [hX.2.2]; exact Or.inr (Nat.add_le_add_left (Nat.le_of_ble_eq_true rfl) _)) ⟨Nat.le_of_ble_eq_true rfl, Nat.le_of_ble_eq_true rfl⟩ dX10_init_74 ?_
  have hK := (show ku _ ((((((((1 + 1) + 1) + 1) + 1) + 1) + 1) + 1) + 1) 10004 0 = 27 from (ku_ne (by decide)).trans hK)
  refine V_putF (ty := (.array .int)) (ci := 26) (N := 73) (C := RX10) (T := TX10) (o := 0) (j := 16) (a := ((9 : Nat) : Int)) X hnm rfl in_X10 tyX10 tyX10_ok nmX10 (by decide) hK (by decide) rfl rfl pfd_AI rfl rfl q1564 (fv_3i rfl (by rw [gI_sI, if_pos ⟨rfl, rfl⟩])) dX10_init_76 ?_
  refine V_aload_n X dX10_init_79 0 rfl ?_
  refine V_bipush X dX10_init_80 (by decide) ?_
  refine V_newarr (at' := .int) (t := 0) (N := 60) X (by decide) rfl q168 (by decide) (by rw [hX.2.2]; exact Or.inr (Nat.add_le_add_left (Nat.le_of_ble_eq_true rfl) _)) ⟨Nat.le_of_ble_eq_true rfl, Nat.le_of_ble_eq_true rfl⟩ dX10_init_82 ?_
  have hK := (show ku _ (((((((((1 + 1) + 1) + 1) + 1) + 1) + 1) + 1) + 1) + 1) 10060 0 = 27 from (ku_ne (by decide)).trans hK)
  refine V_putF (ty := (.array .int)) (ci := 26) (N := 73) (C := RX10) (T := TX10) (o := 0) (j := 17) (a := ((10 : Nat) : Int)) X hnm rfl in_X10 tyX10 tyX10_ok nmX10 (by decide) hK (by decide) rfl rfl pfd_AI rfl rfl q1565 (fv_3i rfl (by rw [gI_sI, if_pos ⟨rfl, rfl⟩])) dX10_init_84 ?_
  refine V_aload_n X dX10_init_87 0 rfl ?_
  refine V_bipush X dX10_init_88 (by decide) ?_
  refine V_newarr (at' := .int) (t := 0) (N := 60) X (by decide) rfl q168 (by decide) (by rw [hX.2.2]; exact Or.inr (Nat.add_le_add_left (Nat.le_of_ble_eq_true rfl) _)) ⟨Nat.le_of_ble_eq_true rfl, Nat.le_of_ble_eq_true rfl⟩ dX10_init_90 ?_
  have hK := (show ku _ ((((((((((1 + 1) + 1) + 1) + 1) + 1) + 1) + 1) + 1) + 1) + 1) 10060 0 = 27 from (ku_ne (by decide)).trans hK)
  refine V_putF (ty := (.array .int)) (ci := 26) (N := 73) (C := RX10) (T := TX10) (o := 0) (j := 18) (a := ((11 : Nat) : Int)) X hnm rfl in_X10 tyX10 tyX10_ok nmX10 (by decide) hK (by decide) rfl rfl pfd_AI rfl rfl q1566 (fv_3i rfl (by rw [gI_sI, if_pos ⟨rfl, rfl⟩])) dX10_init_92 ?_
  refine V_aload_n X dX10_init_95 0 rfl ?_
  refine V_bipush X dX10_init_96 (by decide) ?_
  refine V_newarr (at' := .int) (t := 0) (N := 6) X (by decide) rfl q168 (by decide) (by rw [hX.2.2]; exact Or.inr (Nat.add_le_add_left (Nat.le_of_ble_eq_true rfl) _)) ⟨Nat.le_of_ble_eq_true rfl, Nat.le_of_ble_eq_true rfl⟩ dX10_init_98 ?_
  have hK := (show ku _ (((((((((((1 + 1) + 1) + 1) + 1) + 1) + 1) + 1) + 1) + 1) + 1) + 1) 10006 0 = 27 from (ku_ne (by decide)).trans hK)
  refine V_putF (ty := (.array .int)) (ci := 26) (N := 73) (C := RX10) (T := TX10) (o := 0) (j := 19) (a := ((12 : Nat) : Int)) X hnm rfl in_X10 tyX10 tyX10_ok nmX10 (by decide) hK (by decide) rfl rfl pfd_AI rfl rfl q1567 (fv_3i rfl (by rw [gI_sI, if_pos ⟨rfl, rfl⟩])) dX10_init_100 ?_
  refine V_aload_n X dX10_init_103 0 rfl ?_
  refine V_bipush X dX10_init_104 (by decide) ?_
  refine V_newarr (at' := .int) (t := 0) (N := 8) X (by decide) rfl q168 (by decide) (by rw [hX.2.2]; exact Or.inr (Nat.add_le_add_left (Nat.le_of_ble_eq_true rfl) _)) ⟨Nat.le_of_ble_eq_true rfl, Nat.le_of_ble_eq_true rfl⟩ dX10_init_106 ?_
  have hK := (show ku _ ((((((((((((1 + 1) + 1) + 1) + 1) + 1) + 1) + 1) + 1) + 1) + 1) + 1) + 1) 10008 0 = 27 from (ku_ne (by decide)).trans hK)
  refine V_putF (ty := (.array .int)) (ci := 26) (N := 73) (C := RX10) (T := TX10) (o := 0) (j := 20) (a := ((13 : Nat) : Int)) X hnm rfl in_X10 tyX10 tyX10_ok nmX10 (by decide) hK (by decide) rfl rfl pfd_AI rfl rfl q1568 (fv_3i rfl (by rw [gI_sI, if_pos ⟨rfl, rfl⟩])) dX10_init_108 ?_
  refine V_aload_n X dX10_init_111 0 rfl ?_
  refine V_bipush X dX10_init_112 (by decide) ?_
  refine V_newarr (at' := .int) (t := 0) (N := 16) X (by decide) rfl q168 (by decide) (by rw [hX.2.2]; exact Or.inr (Nat.add_le_add_left (Nat.le_of_ble_eq_true rfl) _)) ⟨Nat.le_of_ble_eq_true rfl, Nat.le_of_ble_eq_true rfl⟩ dX10_init_114 ?_
  have hK := (show ku _ (((((((((((((1 + 1) + 1) + 1) + 1) + 1) + 1) + 1) + 1) + 1) + 1) + 1) + 1) + 1) 10016 0 = 27 from (ku_ne (by decide)).trans hK)
  refine V_putF (ty := (.array .int)) (ci := 26) (N := 73) (C := RX10) (T := TX10) (o := 0) (j := 21) (a := ((14 : Nat) : Int)) X hnm rfl in_X10 tyX10 tyX10_ok nmX10 (by decide) hK (by decide) rfl rfl pfd_AI rfl rfl q1569 (fv_3i rfl (by rw [gI_sI, if_pos ⟨rfl, rfl⟩])) dX10_init_116 ?_
  refine V_aload_n X dX10_init_119 0 rfl ?_
  refine V_sipush X dX10_init_120 (by decide) ?_
  refine V_newarr (at' := .boolean) (t := 2) (N := 241) X (by decide) rfl q1768 (by decide) (by rw [hX.2.2]; exact Or.inr (Nat.add_le_add_left (Nat.le_of_ble_eq_true rfl) _)) ⟨Nat.le_of_ble_eq_true rfl, Nat.le_of_ble_eq_true rfl⟩ dX10_init_123 ?_
  have hK := (show ku _ ((((((((((((((1 + 1) + 1) + 1) + 1) + 1) + 1) + 1) + 1) + 1) + 1) + 1) + 1) + 1) + 1) 30241 0 = 27 from (ku_ne (by decide)).trans hK)
  refine V_putF (ty := (.array .boolean)) (ci := 26) (N := 73) (C := RX10) (T := TX10) (o := 0) (j := 22) (a := ((15 : Nat) : Int)) X hnm rfl in_X10 tyX10 tyX10_ok nmX10 (by decide) hK (by decide) rfl rfl pfd_AZ rfl rfl q1570 (fv_3i rfl (by rw [gI_sI, if_pos ⟨rfl, rfl⟩])) dX10_init_125 ?_
  refine V_aload_n X dX10_init_128 0 rfl ?_
  refine V_sipush X dX10_init_129 (by decide) ?_
  refine V_newarr (at' := .boolean) (t := 2) (N := 241) X (by decide) rfl q1768 (by decide) (by rw [hX.2.2]; exact Or.inr (Nat.add_le_add_left (Nat.le_of_ble_eq_true rfl) _)) ⟨Nat.le_of_ble_eq_true rfl, Nat.le_of_ble_eq_true rfl⟩ dX10_init_132 ?_
  have hK := (show ku _ (((((((((((((((1 + 1) + 1) + 1) + 1) + 1) + 1) + 1) + 1) + 1) + 1) + 1) + 1) + 1) + 1) + 1) 30241 0 = 27 from (ku_ne (by decide)).trans hK)
  refine V_putF (ty := (.array .boolean)) (ci := 26) (N := 73) (C := RX10) (T := TX10) (o := 0) (j := 23) (a := ((16 : Nat) : Int)) X hnm rfl in_X10 tyX10 tyX10_ok nmX10 (by decide) hK (by decide) rfl rfl pfd_AZ rfl rfl q1571 (fv_3i rfl (by rw [gI_sI, if_pos ⟨rfl, rfl⟩])) dX10_init_134 ?_
  refine V_aload_n X dX10_init_137 0 rfl ?_
  refine V_iconst X dX10_init_138 ?_
  refine V_newarr (at' := .int) (t := 0) (N := 5) X (by decide) rfl q168 (by decide) (by rw [hX.2.2]; exact Or.inr (Nat.add_le_add_left (Nat.le_of_ble_eq_true rfl) _)) ⟨Nat.le_of_ble_eq_true rfl, Nat.le_of_ble_eq_true rfl⟩ dX10_init_139 ?_
  have hK := (show ku _ ((((((((((((((((1 + 1) + 1) + 1) + 1) + 1) + 1) + 1) + 1) + 1) + 1) + 1) + 1) + 1) + 1) + 1) + 1) 10005 0 = 27 from (ku_ne (by decide)).trans hK)
  refine V_putF (ty := (.array .int)) (ci := 26) (N := 73) (C := RX10) (T := TX10) (o := 0) (j := 24) (a := ((17 : Nat) : Int)) X hnm rfl in_X10 tyX10 tyX10_ok nmX10 (by decide) hK (by decide) rfl rfl pfd_AI rfl rfl q1572 (fv_3i rfl (by rw [gI_sI, if_pos ⟨rfl, rfl⟩])) dX10_init_141 ?_
  refine V_aload_n X dX10_init_144 0 rfl ?_
  refine V_iconst X dX10_init_145 ?_
  refine V_newarr (at' := .int) (t := 0) (N := 5) X (by decide) rfl q168 (by decide) (by rw [hX.2.2]; exact Or.inr (Nat.add_le_add_left (Nat.le_of_ble_eq_true rfl) _)) ⟨Nat.le_of_ble_eq_true rfl, Nat.le_of_ble_eq_true rfl⟩ dX10_init_146 ?_
  have hK := (show ku _ (((((((((((((((((1 + 1) + 1) + 1) + 1) + 1) + 1) + 1) + 1) + 1) + 1) + 1) + 1) + 1) + 1) + 1) + 1) + 1) 10005 0 = 27 from (ku_ne (by decide)).trans hK)
  refine V_putF (ty := (.array .int)) (ci := 26) (N := 73) (C := RX10) (T := TX10) (o := 0) (j := 25) (a := ((18 : Nat) : Int)) X hnm rfl in_X10 tyX10 tyX10_ok nmX10 (by decide) hK (by decide) rfl rfl pfd_AI rfl rfl q1573 (fv_3i rfl (by rw [gI_sI, if_pos ⟨rfl, rfl⟩])) dX10_init_148 ?_
  refine V_aload_n X dX10_init_151 0 rfl ?_
  refine V_sipush X dX10_init_152 (by decide) ?_
  refine V_newarr (at' := .int) (t := 0) (N := 150) X (by decide) rfl q168 (by decide) (by rw [hX.2.2]; exact Or.inr (Nat.add_le_add_left (Nat.le_of_ble_eq_true rfl) _)) ⟨Nat.le_of_ble_eq_true rfl, Nat.le_of_ble_eq_true rfl⟩ dX10_init_155 ?_
  have hK := (show ku _ ((((((((((((((((((1 + 1) + 1) + 1) + 1) + 1) + 1) + 1) + 1) + 1) + 1) + 1) + 1) + 1) + 1) + 1) + 1) + 1) + 1) 10150 0 = 27 from (ku_ne (by decide)).trans hK)
  refine V_putF (ty := (.array .int)) (ci := 26) (N := 73) (C := RX10) (T := TX10) (o := 0) (j := 37) (a := ((19 : Nat) : Int)) X hnm rfl in_X10 tyX10 tyX10_ok nmX10 (by decide) hK (by decide) rfl rfl pfd_AI rfl rfl q1585 (fv_3i rfl (by rw [gI_sI, if_pos ⟨rfl, rfl⟩])) dX10_init_157 ?_
  refine V_aload_n X dX10_init_160 0 rfl ?_
  refine V_sipush X dX10_init_161 (by decide) ?_
  refine V_newarr (at' := .int) (t := 0) (N := 150) X (by decide) rfl q168 (by decide) (by rw [hX.2.2]; exact Or.inr (Nat.add_le_add_left (Nat.le_of_ble_eq_true rfl) _)) ⟨Nat.le_of_ble_eq_true rfl, Nat.le_of_ble_eq_true rfl⟩ dX10_init_164 ?_
  have hK := (show ku _ (((((((((((((((((((1 + 1) + 1) + 1) + 1) + 1) + 1) + 1) + 1) + 1) + 1) + 1) + 1) + 1) + 1) + 1) + 1) + 1) + 1) + 1) 10150 0 = 27 from (ku_ne (by decide)).trans hK)
  refine V_putF (ty := (.array .int)) (ci := 26) (N := 73) (C := RX10) (T := TX10) (o := 0) (j := 38) (a := ((20 : Nat) : Int)) X hnm rfl in_X10 tyX10 tyX10_ok nmX10 (by decide) hK (by decide) rfl rfl pfd_AI rfl rfl q1586 (fv_3i rfl (by rw [gI_sI, if_pos ⟨rfl, rfl⟩])) dX10_init_166 ?_
  refine V_aload_n X dX10_init_169 0 rfl ?_
  refine V_sipush X dX10_init_170 (by decide) ?_
  refine V_newarr (at' := .int) (t := 0) (N := 150) X (by decide) rfl q168 (by decide) (by rw [hX.2.2]; exact Or.inr (Nat.add_le_add_left (Nat.le_of_ble_eq_true rfl) _)) ⟨Nat.le_of_ble_eq_true rfl, Nat.le_of_ble_eq_true rfl⟩ dX10_init_173 ?_
  have hK := (show ku _ ((((((((((((((((((((1 + 1) + 1) + 1) + 1) + 1) + 1) + 1) + 1) + 1) + 1) + 1) + 1) + 1) + 1) + 1) + 1) + 1) + 1) + 1) + 1) 10150 0 = 27 from (ku_ne (by decide)).trans hK)
  refine V_putF (ty := (.array .int)) (ci := 26) (N := 73) (C := RX10) (T := TX10) (o := 0) (j := 39) (a := ((21 : Nat) : Int)) X hnm rfl in_X10 tyX10 tyX10_ok nmX10 (by decide) hK (by decide) rfl rfl pfd_AI rfl rfl q1587 (fv_3i rfl (by rw [gI_sI, if_pos ⟨rfl, rfl⟩])) dX10_init_175 ?_
  refine V_aload_n X dX10_init_178 0 rfl ?_
  refine V_sipush X dX10_init_179 (by decide) ?_
  refine V_newarr (at' := .int) (t := 0) (N := 150) X (by decide) rfl q168 (by decide) (by rw [hX.2.2]; exact Or.inr (Nat.add_le_add_left (Nat.le_of_ble_eq_true rfl) _)) ⟨Nat.le_of_ble_eq_true rfl, Nat.le_of_ble_eq_true rfl⟩ dX10_init_182 ?_
  have hK := (show ku _ (((((((((((((((((((((1 + 1) + 1) + 1) + 1) + 1) + 1) + 1) + 1) + 1) + 1) + 1) + 1) + 1) + 1) + 1) + 1) + 1) + 1) + 1) + 1) + 1) 10150 0 = 27 from (ku_ne (by decide)).trans hK)
  refine V_putF (ty := (.array .int)) (ci := 26) (N := 73) (C := RX10) (T := TX10) (o := 0) (j := 40) (a := ((22 : Nat) : Int)) X hnm rfl in_X10 tyX10 tyX10_ok nmX10 (by decide) hK (by decide) rfl rfl pfd_AI rfl rfl q1588 (fv_3i rfl (by rw [gI_sI, if_pos ⟨rfl, rfl⟩])) dX10_init_184 ?_
  refine V_aload_n X dX10_init_187 0 rfl ?_
  refine V_sipush X dX10_init_188 (by decide) ?_
  refine V_newarr (at' := .int) (t := 0) (N := 150) X (by decide) rfl q168 (by decide) (by rw [hX.2.2]; exact Or.inr (Nat.add_le_add_left (Nat.le_of_ble_eq_true rfl) _)) ⟨Nat.le_of_ble_eq_true rfl, Nat.le_of_ble_eq_true rfl⟩ dX10_init_191 ?_
  have hK := (show ku _ ((((((((((((((((((((((1 + 1) + 1) + 1) + 1) + 1) + 1) + 1) + 1) + 1) + 1) + 1) + 1) + 1) + 1) + 1) + 1) + 1) + 1) + 1) + 1) + 1) + 1) 10150 0 = 27 from (ku_ne (by decide)).trans hK)
  refine V_putF (ty := (.array .int)) (ci := 26) (N := 73) (C := RX10) (T := TX10) (o := 0) (j := 41) (a := ((23 : Nat) : Int)) X hnm rfl in_X10 tyX10 tyX10_ok nmX10 (by decide) hK (by decide) rfl rfl pfd_AI rfl rfl q1589 (fv_3i rfl (by rw [gI_sI, if_pos ⟨rfl, rfl⟩])) dX10_init_193 ?_
  refine V_aload_n X dX10_init_196 0 rfl ?_
  refine V_bipush X dX10_init_197 (by decide) ?_
  refine V_newarr (at' := .int) (t := 0) (N := 6) X (by decide) rfl q168 (by decide) (by rw [hX.2.2]; exact Or.inr (Nat.add_le_add_left (Nat.le_of_ble_eq_true rfl) _)) ⟨Nat.le_of_ble_eq_true rfl, Nat.le_of_ble_eq_true rfl⟩ dX10_init_199 ?_
  have hK := (show ku _ (((((((((((((((((((((((1 + 1) + 1) + 1) + 1) + 1) + 1) + 1) + 1) + 1) + 1) + 1) + 1) + 1) + 1) + 1) + 1) + 1) + 1) + 1) + 1) + 1) + 1) + 1) 10006 0 = 27 from (ku_ne (by decide)).trans hK)
  refine V_putF (ty := (.array .int)) (ci := 26) (N := 73) (C := RX10) (T := TX10) (o := 0) (j := 44) (a := ((24 : Nat) : Int)) X hnm rfl in_X10 tyX10 tyX10_ok nmX10 (by decide) hK (by decide) rfl rfl pfd_AI rfl rfl q1592 (fv_3i rfl (by rw [gI_sI, if_pos ⟨rfl, rfl⟩])) dX10_init_201 ?_
  refine V_aload_n X dX10_init_204 0 rfl ?_
  refine V_bipush X dX10_init_205 (by decide) ?_
  refine V_newarr (at' := .int) (t := 0) (N := 24) X (by decide) rfl q168 (by decide) (by rw [hX.2.2]; exact Or.inr (Nat.add_le_add_left (Nat.le_of_ble_eq_true rfl) _)) ⟨Nat.le_of_ble_eq_true rfl, Nat.le_of_ble_eq_true rfl⟩ dX10_init_207 ?_
  have hK := (show ku _ ((((((((((((((((((((((((1 + 1) + 1) + 1) + 1) + 1) + 1) + 1) + 1) + 1) + 1) + 1) + 1) + 1) + 1) + 1) + 1) + 1) + 1) + 1) + 1) + 1) + 1) + 1) + 1) 10024 0 = 27 from (ku_ne (by decide)).trans hK)
  refine V_putF (ty := (.array .int)) (ci := 26) (N := 73) (C := RX10) (T := TX10) (o := 0) (j := 45) (a := ((25 : Nat) : Int)) X hnm rfl in_X10 tyX10 tyX10_ok nmX10 (by decide) hK (by decide) rfl rfl pfd_AI rfl rfl q1593 (fv_3i rfl (by rw [gI_sI, if_pos ⟨rfl, rfl⟩])) dX10_init_209 ?_
  refine V_aload_n X dX10_init_212 0 rfl ?_
  refine V_bipush X dX10_init_213 (by decide) ?_
  refine V_newarr (at' := .int) (t := 0) (N := 24) X (by decide) rfl q168 (by decide) (by rw [hX.2.2]; exact Or.inr (Nat.add_le_add_left (Nat.le_of_ble_eq_true rfl) _)) ⟨Nat.le_of_ble_eq_true rfl, Nat.le_of_ble_eq_true rfl⟩ dX10_init_215 ?_
  have hK := (show ku _ (((((((((((((((((((((((((1 + 1) + 1) + 1) + 1) + 1) + 1) + 1) + 1) + 1) + 1) + 1) + 1) + 1) + 1) + 1) + 1) + 1) + 1) + 1) + 1) + 1) + 1) + 1) + 1) + 1) 10024 0 = 27 from (ku_ne (by decide)).trans hK)
  refine V_putF (ty := (.array .int)) (ci := 26) (N := 73) (C := RX10) (T := TX10) (o := 0) (j := 46) (a := ((26 : Nat) : Int)) X hnm rfl in_X10 tyX10 tyX10_ok nmX10 (by decide) hK (by decide) rfl rfl pfd_AI rfl rfl q1594 (fv_3i rfl (by rw [gI_sI, if_pos ⟨rfl, rfl⟩])) dX10_init_217 ?_
  refine V_aload_n X dX10_init_220 0 rfl ?_
  refine V_iconst X dX10_init_221 ?_
  refine V_newarr (at' := .int) (t := 0) (N := 3) X (by decide) rfl q168 (by decide) (by rw [hX.2.2]; exact Or.inr (Nat.add_le_add_left (Nat.le_of_ble_eq_true rfl) _)) ⟨Nat.le_of_ble_eq_true rfl, Nat.le_of_ble_eq_true rfl⟩ dX10_init_222 ?_
  have hK := (show ku _ ((((((((((((((((((((((((((1 + 1) + 1) + 1) + 1) + 1) + 1) + 1) + 1) + 1) + 1) + 1) + 1) + 1) + 1) + 1) + 1) + 1) + 1) + 1) + 1) + 1) + 1) + 1) + 1) + 1) + 1) 10003 0 = 27 from (ku_ne (by decide)).trans hK)
  refine V_putF (ty := (.array .int)) (ci := 26) (N := 73) (C := RX10) (T := TX10) (o := 0) (j := 47) (a := ((27 : Nat) : Int)) X hnm rfl in_X10 tyX10 tyX10_ok nmX10 (by decide) hK (by decide) rfl rfl pfd_AI rfl rfl q1595 (fv_3i rfl (by rw [gI_sI, if_pos ⟨rfl, rfl⟩])) dX10_init_224 ?_
  refine V_aload_n X dX10_init_227 0 rfl ?_
  refine V_iconst X dX10_init_228 ?_
  refine V_newarr (at' := .int) (t := 0) (N := 3) X (by decide) rfl q168 (by decide) (by rw [hX.2.2]; exact Or.inr (Nat.add_le_add_left (Nat.le_of_ble_eq_true rfl) _)) ⟨Nat.le_of_ble_eq_true rfl, Nat.le_of_ble_eq_true rfl⟩ dX10_init_229 ?_
  have hK := (show ku _ (((((((((((((((((((((((((((1 + 1) + 1) + 1) + 1) + 1) + 1) + 1) + 1) + 1) + 1) + 1) + 1) + 1) + 1) + 1) + 1) + 1) + 1) + 1) + 1) + 1) + 1) + 1) + 1) + 1) + 1) + 1) 10003 0 = 27 from (ku_ne (by decide)).trans hK)
  refine V_putF (ty := (.array .int)) (ci := 26) (N := 73) (C := RX10) (T := TX10) (o := 0) (j := 48) (a := ((28 : Nat) : Int)) X hnm rfl in_X10 tyX10 tyX10_ok nmX10 (by decide) hK (by decide) rfl rfl pfd_AI rfl rfl q1596 (fv_3i rfl (by rw [gI_sI, if_pos ⟨rfl, rfl⟩])) dX10_init_231 ?_
  refine V_aload_n X dX10_init_234 0 rfl ?_
  refine V_bipush X dX10_init_235 (by decide) ?_
  refine V_newarr (at' := .int) (t := 0) (N := 12) X (by decide) rfl q168 (by decide) (by rw [hX.2.2]; exact Or.inr (Nat.add_le_add_left (Nat.le_of_ble_eq_true rfl) _)) ⟨Nat.le_of_ble_eq_true rfl, Nat.le_of_ble_eq_true rfl⟩ dX10_init_237 ?_
  have hK := (show ku _ ((((((((((((((((((((((((((((1 + 1) + 1) + 1) + 1) + 1) + 1) + 1) + 1) + 1) + 1) + 1) + 1) + 1) + 1) + 1) + 1) + 1) + 1) + 1) + 1) + 1) + 1) + 1) + 1) + 1) + 1) + 1) + 1) 10012 0 = 27 from (ku_ne (by decide)).trans hK)
  refine V_putF (ty := (.array .int)) (ci := 26) (N := 73) (C := RX10) (T := TX10) (o := 0) (j := 51) (a := ((29 : Nat) : Int)) X hnm rfl in_X10 tyX10 tyX10_ok nmX10 (by decide) hK (by decide) rfl rfl pfd_AI rfl rfl q1599 (fv_3i rfl (by rw [gI_sI, if_pos ⟨rfl, rfl⟩])) dX10_init_239 ?_
  refine V_aload_n X dX10_init_242 0 rfl ?_
  refine V_bipush X dX10_init_243 (by decide) ?_
  refine V_newarr (at' := .int) (t := 0) (N := 12) X (by decide) rfl q168 (by decide) (by rw [hX.2.2]; exact Or.inr (Nat.add_le_add_left (Nat.le_of_ble_eq_true rfl) _)) ⟨Nat.le_of_ble_eq_true rfl, Nat.le_of_ble_eq_true rfl⟩ dX10_init_245 ?_
  have hK := (show ku _ (((((((((((((((((((((((((((((1 + 1) + 1) + 1) + 1) + 1) + 1) + 1) + 1) + 1) + 1) + 1) + 1) + 1) + 1) + 1) + 1) + 1) + 1) + 1) + 1) + 1) + 1) + 1) + 1) + 1) + 1) + 1) + 1) + 1) 10012 0 = 27 from (ku_ne (by decide)).trans hK)
  refine V_putF (ty := (.array .int)) (ci := 26) (N := 73) (C := RX10) (T := TX10) (o := 0) (j := 52) (a := ((30 : Nat) : Int)) X hnm rfl in_X10 tyX10 tyX10_ok nmX10 (by decide) hK (by decide) rfl rfl pfd_AI rfl rfl q1600 (fv_3i rfl (by rw [gI_sI, if_pos ⟨rfl, rfl⟩])) dX10_init_247 ?_
  refine V_aload_n X dX10_init_250 0 rfl ?_
  refine V_iconst X dX10_init_251 ?_
  refine V_newarr (at' := .int) (t := 0) (N := 4) X (by decide) rfl q168 (by decide) (by rw [hX.2.2]; exact Or.inr (Nat.add_le_add_left (Nat.le_of_ble_eq_true rfl) _)) ⟨Nat.le_of_ble_eq_true rfl, Nat.le_of_ble_eq_true rfl⟩ dX10_init_252 ?_
  have hK := (show ku _ ((((((((((((((((((((((((((((((1 + 1) + 1) + 1) + 1) + 1) + 1) + 1) + 1) + 1) + 1) + 1) + 1) + 1) + 1) + 1) + 1) + 1) + 1) + 1) + 1) + 1) + 1) + 1) + 1) + 1) + 1) + 1) + 1) + 1) + 1) 10004 0 = 27 from (ku_ne (by decide)).trans hK)
  refine V_putF (ty := (.array .int)) (ci := 26) (N := 73) (C := RX10) (T := TX10) (o := 0) (j := 53) (a := ((31 : Nat) : Int)) X hnm rfl in_X10 tyX10 tyX10_ok nmX10 (by decide) hK (by decide) rfl rfl pfd_AI rfl rfl q1601 (fv_3i rfl (by rw [gI_sI, if_pos ⟨rfl, rfl⟩])) dX10_init_254 ?_
  refine V_aload_n X dX10_init_257 0 rfl ?_
  refine V_bipush X dX10_init_258 (by decide) ?_
  refine V_newarr (at' := .int) (t := 0) (N := 12) X (by decide) rfl q168 (by decide) (by rw [hX.2.2]; exact Or.inr (Nat.add_le_add_left (Nat.le_of_ble_eq_true rfl) _)) ⟨Nat.le_of_ble_eq_true rfl, Nat.le_of_ble_eq_true rfl⟩ dX10_init_260 ?_
  have hK := (show ku _ (((((((((((((((((((((((((((((((1 + 1) + 1) + 1) + 1) + 1) + 1) + 1) + 1) + 1) + 1) + 1) + 1) + 1) + 1) + 1) + 1) + 1) + 1) + 1) + 1) + 1) + 1) + 1) + 1) + 1) + 1) + 1) + 1) + 1) + 1) + 1) 10012 0 = 27 from (ku_ne (by decide)).trans hK)
  refine V_putF (ty := (.array .int)) (ci := 26) (N := 73) (C := RX10) (T := TX10) (o := 0) (j := 54) (a := ((32 : Nat) : Int)) X hnm rfl in_X10 tyX10 tyX10_ok nmX10 (by decide) hK (by decide) rfl rfl pfd_AI rfl rfl q1602 (fv_3i rfl (by rw [gI_sI, if_pos ⟨rfl, rfl⟩])) dX10_init_262 ?_
  refine V_aload_n X dX10_init_265 0 rfl ?_
  refine V_iconst X dX10_init_266 ?_
  refine V_newarr (at' := .int) (t := 0) (N := 4) X (by decide) rfl q168 (by decide) (by rw [hX.2.2]; exact Or.inr (Nat.add_le_add_left (Nat.le_of_ble_eq_true rfl) _)) ⟨Nat.le_of_ble_eq_true rfl, Nat.le_of_ble_eq_true rfl⟩ dX10_init_267 ?_
  have hK := (show ku _ ((((((((((((((((((((((((((((((((1 + 1) + 1) + 1) + 1) + 1) + 1) + 1) + 1) + 1) + 1) + 1) + 1) + 1) + 1) + 1) + 1) + 1) + 1) + 1) + 1) + 1) + 1) + 1) + 1) + 1) + 1) + 1) + 1) + 1) + 1) + 1) + 1) 10004 0 = 27 from (ku_ne (by decide)).trans hK)
  refine V_putF (ty := (.array .int)) (ci := 26) (N := 73) (C := RX10) (T := TX10) (o := 0) (j := 55) (a := ((33 : Nat) : Int)) X hnm rfl in_X10 tyX10 tyX10_ok nmX10 (by decide) hK (by decide) rfl rfl pfd_AI rfl rfl q1603 (fv_3i rfl (by rw [gI_sI, if_pos ⟨rfl, rfl⟩])) dX10_init_269 ?_
  refine V_aload_n X dX10_init_272 0 rfl ?_
  refine V_iconst X dX10_init_273 ?_
  refine V_newarr (at' := .int) (t := 0) (N := 4) X (by decide) rfl q168 (by decide) (by rw [hX.2.2]; exact Or.inr (Nat.add_le_add_left (Nat.le_of_ble_eq_true rfl) _)) ⟨Nat.le_of_ble_eq_true rfl, Nat.le_of_ble_eq_true rfl⟩ dX10_init_274 ?_
  have hK := (show ku _ (((((((((((((((((((((((((((((((((1 + 1) + 1) + 1) + 1) + 1) + 1) + 1) + 1) + 1) + 1) + 1) + 1) + 1) + 1) + 1) + 1) + 1) + 1) + 1) + 1) + 1) + 1) + 1) + 1) + 1) + 1) + 1) + 1) + 1) + 1) + 1) + 1) + 1) 10004 0 = 27 from (ku_ne (by decide)).trans hK)
  refine V_putF (ty := (.array .int)) (ci := 26) (N := 73) (C := RX10) (T := TX10) (o := 0) (j := 56) (a := ((34 : Nat) : Int)) X hnm rfl in_X10 tyX10 tyX10_ok nmX10 (by decide) hK (by decide) rfl rfl pfd_AI rfl rfl q1604 (fv_3i rfl (by rw [gI_sI, if_pos ⟨rfl, rfl⟩])) dX10_init_276 ?_
  refine V_aload_n X dX10_init_279 0 rfl ?_
  refine V_bipush X dX10_init_280 (by decide) ?_
  refine V_newarr (at' := .int) (t := 0) (N := 12) X (by decide) rfl q168 (by decide) (by rw [hX.2.2]; exact Or.inr (Nat.add_le_add_left (Nat.le_of_ble_eq_true rfl) _)) ⟨Nat.le_of_ble_eq_true rfl, Nat.le_of_ble_eq_true rfl⟩ dX10_init_282 ?_
  have hK := (show ku _ ((((((((((((((((((((((((((((((((((1 + 1) + 1) + 1) + 1) + 1) + 1) + 1) + 1) + 1) + 1) + 1) + 1) + 1) + 1) + 1) + 1) + 1) + 1) + 1) + 1) + 1) + 1) + 1) + 1) + 1) + 1) + 1) + 1) + 1) + 1) + 1) + 1) + 1) + 1) 10012 0 = 27 from (ku_ne (by decide)).trans hK)
  refine V_putF (ty := (.array .int)) (ci := 26) (N := 73) (C := RX10) (T := TX10) (o := 0) (j := 57) (a := ((35 : Nat) : Int)) X hnm rfl in_X10 tyX10 tyX10_ok nmX10 (by decide) hK (by decide) rfl rfl pfd_AI rfl rfl q1605 (fv_3i rfl (by rw [gI_sI, if_pos ⟨rfl, rfl⟩])) dX10_init_284 ?_
  refine V_aload_n X dX10_init_287 0 rfl ?_
  refine V_bipush X dX10_init_288 (by decide) ?_
  refine V_newarr (at' := .int) (t := 0) (N := 12) X (by decide) rfl q168 (by decide) (by rw [hX.2.2]; exact Or.inr (Nat.add_le_add_left (Nat.le_of_ble_eq_true rfl) _)) ⟨Nat.le_of_ble_eq_true rfl, Nat.le_of_ble_eq_true rfl⟩ dX10_init_290 ?_
  have hK := (show ku _ (((((((((((((((((((((((((((((((((((1 + 1) + 1) + 1) + 1) + 1) + 1) + 1) + 1) + 1) + 1) + 1) + 1) + 1) + 1) + 1) + 1) + 1) + 1) + 1) + 1) + 1) + 1) + 1) + 1) + 1) + 1) + 1) + 1) + 1) + 1) + 1) + 1) + 1) + 1) + 1) 10012 0 = 27 from (ku_ne (by decide)).trans hK)
  refine V_putF (ty := (.array .int)) (ci := 26) (N := 73) (C := RX10) (T := TX10) (o := 0) (j := 59) (a := ((36 : Nat) : Int)) X hnm rfl in_X10 tyX10 tyX10_ok nmX10 (by decide) hK (by decide) rfl rfl pfd_AI rfl rfl q1607 (fv_3i rfl (by rw [gI_sI, if_pos ⟨rfl, rfl⟩])) dX10_init_292 ?_
  refine V_aload_n X dX10_init_295 0 rfl ?_
  refine V_bipush X dX10_init_296 (by decide) ?_
  refine V_newarr (at' := .int) (t := 0) (N := 24) X (by decide) rfl q168 (by decide) (by rw [hX.2.2]; exact Or.inr (Nat.add_le_add_left (Nat.le_of_ble_eq_true rfl) _)) ⟨Nat.le_of_ble_eq_true rfl, Nat.le_of_ble_eq_true rfl⟩ dX10_init_298 ?_
  have hK := (show ku _ ((((((((((((((((((((((((((((((((((((1 + 1) + 1) + 1) + 1) + 1) + 1) + 1) + 1) + 1) + 1) + 1) + 1) + 1) + 1) + 1) + 1) + 1) + 1) + 1) + 1) + 1) + 1) + 1) + 1) + 1) + 1) + 1) + 1) + 1) + 1) + 1) + 1) + 1) + 1) + 1) + 1) 10024 0 = 27 from (ku_ne (by decide)).trans hK)
  refine V_putF (ty := (.array .int)) (ci := 26) (N := 73) (C := RX10) (T := TX10) (o := 0) (j := 60) (a := ((37 : Nat) : Int)) X hnm rfl in_X10 tyX10 tyX10_ok nmX10 (by decide) hK (by decide) rfl rfl pfd_AI rfl rfl q1608 (fv_3i rfl (by rw [gI_sI, if_pos ⟨rfl, rfl⟩])) dX10_init_300 ?_
  refine V_aload_n X dX10_init_303 0 rfl ?_
  refine V_bipush X dX10_init_304 (by decide) ?_
  refine V_newarr (at' := .int) (t := 0) (N := 10) X (by decide) rfl q168 (by decide) (by rw [hX.2.2]; exact Or.inr (Nat.add_le_add_left (Nat.le_of_ble_eq_true rfl) _)) ⟨Nat.le_of_ble_eq_true rfl, Nat.le_of_ble_eq_true rfl⟩ dX10_init_306 ?_
  have hK := (show ku _ (((((((((((((((((((((((((((((((((((((1 + 1) + 1) + 1) + 1) + 1) + 1) + 1) + 1) + 1) + 1) + 1) + 1) + 1) + 1) + 1) + 1) + 1) + 1) + 1) + 1) + 1) + 1) + 1) + 1) + 1) + 1) + 1) + 1) + 1) + 1) + 1) + 1) + 1) + 1) + 1) + 1) + 1) 10010 0 = 27 from (ku_ne (by decide)).trans hK)
  refine V_putF (ty := (.array .int)) (ci := 26) (N := 73) (C := RX10) (T := TX10) (o := 0) (j := 61) (a := ((38 : Nat) : Int)) X hnm rfl in_X10 tyX10 tyX10_ok nmX10 (by decide) hK (by decide) rfl rfl pfd_AI rfl rfl q1609 (fv_3i rfl (by rw [gI_sI, if_pos ⟨rfl, rfl⟩])) dX10_init_308 ?_
  refine V_aload_n X dX10_init_311 0 rfl ?_
  refine V_bipush X dX10_init_312 (by decide) ?_
  refine V_newarr (at' := .int) (t := 0) (N := 10) X (by decide) rfl q168 (by decide) (by rw [hX.2.2]; exact Or.inr (Nat.add_le_add_left (Nat.le_of_ble_eq_true rfl) _)) ⟨Nat.le_of_ble_eq_true rfl, Nat.le_of_ble_eq_true rfl⟩ dX10_init_314 ?_
  have hK := (show ku _ ((((((((((((((((((((((((((((((((((((((1 + 1) + 1) + 1) + 1) + 1) + 1) + 1) + 1) + 1) + 1) + 1) + 1) + 1) + 1) + 1) + 1) + 1) + 1) + 1) + 1) + 1) + 1) + 1) + 1) + 1) + 1) + 1) + 1) + 1) + 1) + 1) + 1) + 1) + 1) + 1) + 1) + 1) + 1) 10010 0 = 27 from (ku_ne (by decide)).trans hK)
  refine V_putF (ty := (.array .int)) (ci := 26) (N := 73) (C := RX10) (T := TX10) (o := 0) (j := 62) (a := ((39 : Nat) : Int)) X hnm rfl in_X10 tyX10 tyX10_ok nmX10 (by decide) hK (by decide) rfl rfl pfd_AI rfl rfl q1610 (fv_3i rfl (by rw [gI_sI, if_pos ⟨rfl, rfl⟩])) dX10_init_316 ?_
  refine V_aload_n X dX10_init_319 0 rfl ?_
  refine V_sipush X dX10_init_320 (by decide) ?_
  refine V_newarr (at' := .int) (t := 0) (N := 3200) X (by decide) rfl q168 (by decide) (by rw [hX.2.2]; exact Or.inr (Nat.add_le_add_left (Nat.le_of_ble_eq_true rfl) _)) ⟨Nat.le_of_ble_eq_true rfl, Nat.le_of_ble_eq_true rfl⟩ dX10_init_323 ?_
  have hK := (show ku _ (((((((((((((((((((((((((((((((((((((((1 + 1) + 1) + 1) + 1) + 1) + 1) + 1) + 1) + 1) + 1) + 1) + 1) + 1) + 1) + 1) + 1) + 1) + 1) + 1) + 1) + 1) + 1) + 1) + 1) + 1) + 1) + 1) + 1) + 1) + 1) + 1) + 1) + 1) + 1) + 1) + 1) + 1) + 1) + 1) 13200 0 = 27 from (ku_ne (by decide)).trans hK)
  refine V_putF (ty := (.array .int)) (ci := 26) (N := 73) (C := RX10) (T := TX10) (o := 0) (j := 67) (a := ((40 : Nat) : Int)) X hnm rfl in_X10 tyX10 tyX10_ok nmX10 (by decide) hK (by decide) rfl rfl pfd_AI rfl rfl q1615 (fv_3i rfl (by rw [gI_sI, if_pos ⟨rfl, rfl⟩])) dX10_init_325 ?_
  refine V_aload_n X dX10_init_328 0 rfl ?_
  refine V_sipush X dX10_init_329 (by decide) ?_
  refine V_newarr (at' := .int) (t := 0) (N := 500) X (by decide) rfl q168 (by decide) (by rw [hX.2.2]; exact Or.inr (Nat.add_le_add_left (Nat.le_of_ble_eq_true rfl) _)) ⟨Nat.le_of_ble_eq_true rfl, Nat.le_of_ble_eq_true rfl⟩ dX10_init_332 ?_
  have hK := (show ku _ ((((((((((((((((((((((((((((((((((((((((1 + 1) + 1) + 1) + 1) + 1) + 1) + 1) + 1) + 1) + 1) + 1) + 1) + 1) + 1) + 1) + 1) + 1) + 1) + 1) + 1) + 1) + 1) + 1) + 1) + 1) + 1) + 1) + 1) + 1) + 1) + 1) + 1) + 1) + 1) + 1) + 1) + 1) + 1) + 1) + 1) 10500 0 = 27 from (ku_ne (by decide)).trans hK)
  refine V_putF (ty := (.array .int)) (ci := 26) (N := 73) (C := RX10) (T := TX10) (o := 0) (j := 69) (a := ((41 : Nat) : Int)) X hnm rfl in_X10 tyX10 tyX10_ok nmX10 (by decide) hK (by decide) rfl rfl pfd_AI rfl rfl q1617 (fv_3i rfl (by rw [gI_sI, if_pos ⟨rfl, rfl⟩])) dX10_init_334 ?_
  refine V_aload_n X dX10_init_337 0 rfl ?_
  refine V_sipush X dX10_init_338 (by decide) ?_
  refine V_newarr (at' := .int) (t := 0) (N := 1578) X (by decide) rfl q168 (by decide) (by rw [hX.2.2]; exact Or.inr (Nat.add_le_add_left (Nat.le_of_ble_eq_true rfl) _)) ⟨Nat.le_of_ble_eq_true rfl, Nat.le_of_ble_eq_true rfl⟩ dX10_init_341 ?_
  have hK := (show ku _ (((((((((((((((((((((((((((((((((((((((((1 + 1) + 1) + 1) + 1) + 1) + 1) + 1) + 1) + 1) + 1) + 1) + 1) + 1) + 1) + 1) + 1) + 1) + 1) + 1) + 1) + 1) + 1) + 1) + 1) + 1) + 1) + 1) + 1) + 1) + 1) + 1) + 1) + 1) + 1) + 1) + 1) + 1) + 1) + 1) + 1) + 1) 11578 0 = 27 from (ku_ne (by decide)).trans hK)
  refine V_putF (ty := (.array .int)) (ci := 26) (N := 73) (C := RX10) (T := TX10) (o := 0) (j := 71) (a := ((42 : Nat) : Int)) X hnm rfl in_X10 tyX10 tyX10_ok nmX10 (by decide) hK (by decide) rfl rfl pfd_AI rfl rfl q1619 (fv_3i rfl (by rw [gI_sI, if_pos ⟨rfl, rfl⟩])) dX10_init_343 ?_
  refine V_done (ci := 9) (N := 73) (o := 0) (C := RX10) (T := TX10) X rfl rfl (by decide) (by decide) hK (mi_dn K0 g) ?_
  refine V_K (mi_Keq K0 h0) ?_
  unfold m_init at h
  obtain ⟨c, hc, h⟩ := bind_some_eq h
  refine V_aload_n X dX10_init_346 0 rfl ?_
  refine V_callV (ci := 9) (N := 73) (T := TX10) (As := []) (rest := []) (s1 := []) (o := 0) X (con_m_clears N (dnI 9 0 (mi_g g)) c hc) gwI10_clears hdI10_clears ⟨Nat.le_of_ble_eq_true rfl, Nat.le_of_ble_eq_true rfl⟩ rfl (by decide) rfl rfl rfl (Nat.le_of_ble_eq_true rfl) ⟨Nat.le_of_ble_eq_true rfl, Nat.le_of_ble_eq_true rfl⟩ dX10_init_347 rfl rfl ?_
  refine V_aload_n X dX10_init_350 0 rfl ?_
  refine V_callV (ci := 9) (N := 73) (T := TX10) (As := []) (rest := []) (s1 := []) (o := 0) X (con_m_sets N c r h) gwI10_sets hdI10_sets ⟨Nat.le_of_ble_eq_true rfl, Nat.le_of_ble_eq_true rfl⟩ rfl (by decide) rfl rfl rfl (Nat.le_of_ble_eq_true rfl) ⟨Nat.le_of_ble_eq_true rfl, Nat.le_of_ble_eq_true rfl⟩ dX10_init_351 rfl rfl ?_
  exact V_endB hX rfl (Nat.le_of_ble_eq_true rfl) (Nat.le_of_ble_eq_true rfl) dX10_init_354
