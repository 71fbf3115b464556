set_option maxRecDepth 100000
theorem q145 : (Jvm.Cond.arrayClass Jvm.ClassFile.FieldType.byte) ∈ lw_all := lw_g (lw_at lw_m1 50 rfl) rfl
theorem q168 : (Jvm.Cond.arrayClass Jvm.ClassFile.FieldType.int) ∈ lw_all := lw_g (lw_at lw_m1 73 rfl) rfl
theorem q169 : (Jvm.Cond.arrayOver (Jvm.ClassFile.FieldType.object "RainWheel$Plan")) ∈ lw_tbl := lw_at lw_m1 74 rfl
theorem q171 : (Jvm.Cond.arrayOver (Jvm.ClassFile.FieldType.array (Jvm.ClassFile.FieldType.object "RainWheel$Plan"))) ∈ lw_tbl := lw_at lw_m1 76 rfl
theorem q172 : (Jvm.Cond.arrayClass (Jvm.ClassFile.FieldType.object "RainWheel$Plan")) ∈ lw_all := lw_g (lw_at lw_m1 77 rfl) rfl
theorem q277 : (Jvm.Cond.arrayOver (Jvm.ClassFile.FieldType.object "RainWheel$Watch")) ∈ lw_tbl := lw_at lw_m1 182 rfl
theorem q354 : (Jvm.Cond.arrayOver (Jvm.ClassFile.FieldType.array Jvm.ClassFile.FieldType.int)) ∈ lw_tbl := lw_at lw_m2 19 rfl
theorem q814 : (Jvm.Cond.arrayOver (Jvm.ClassFile.FieldType.object "java/lang/String")) ∈ lw_tbl := lw_at lw_m3 239 rfl
theorem pfd_C : parseFieldDescriptor "C" = some .char := by decide +kernel
theorem pfd_LLaw : parseFieldDescriptor "LRainWheel$Law;" = some (.object "RainWheel$Law") := by decide +kernel
theorem pfd_LMiles : parseFieldDescriptor "LRainWheel$Miles;" = some (.object "RainWheel$Miles") := by decide +kernel
theorem pfd_LPlan : parseFieldDescriptor "LRainWheel$Plan;" = some (.object "RainWheel$Plan") := by decide +kernel
theorem pfd_LReader : parseFieldDescriptor "LRainWheel$Reader;" = some (.object "RainWheel$Reader") := by decide +kernel
theorem pfd_LRing : parseFieldDescriptor "LRainWheel$Ring;" = some (.object "RainWheel$Ring") := by decide +kernel
theorem pfd_LRoad : parseFieldDescriptor "LRainWheel$Road;" = some (.object "RainWheel$Road") := by decide +kernel
theorem pfd_LSight : parseFieldDescriptor "LRainWheel$Sight;" = some (.object "RainWheel$Sight") := by decide +kernel
theorem pfd_LSoonest : parseFieldDescriptor "LRainWheel$Soonest;" = some (.object "RainWheel$Soonest") := by decide +kernel
theorem pfd_LTerm : parseFieldDescriptor "LRainWheel$Term;" = some (.object "RainWheel$Term") := by decide +kernel
theorem pfd_LWatch : parseFieldDescriptor "LRainWheel$Watch;" = some (.object "RainWheel$Watch") := by decide +kernel
theorem pfd_AB : parseFieldDescriptor "[B" = some (.array .byte) := by decide +kernel
theorem pfd_AI : parseFieldDescriptor "[I" = some (.array .int) := by decide +kernel
theorem pfd_ALPlan : parseFieldDescriptor "[LRainWheel$Plan;" = some (.array (.object "RainWheel$Plan")) := by decide +kernel
theorem pfd_ALWatch : parseFieldDescriptor "[LRainWheel$Watch;" = some (.array (.object "RainWheel$Watch")) := by decide +kernel
theorem pfd_ALString : parseFieldDescriptor "[Ljava/lang/String;" = some (.array (.object "java/lang/String")) := by decide +kernel
theorem pfd_AAI : parseFieldDescriptor "[[I" = some (.array (.array .int)) := by decide +kernel
theorem pfd_AALPlan : parseFieldDescriptor "[[LRainWheel$Plan;" = some (.array (.array (.object "RainWheel$Plan"))) := by decide +kernel
theorem df_1 : ∀ j, j < 1 → (lt_ 1 j).1 = 0 ∧ defaultValue (tyX2 j) = .int 0 ∨ (3 ≤ (lt_ 1 j).1 ∧ defaultValue (tyX2 j) = .null) := by
  intro j hj
  match j, hj with
  | 0, _ => exact Or.inr ⟨by decide, rfl⟩
  | (n + 1), h => exact absurd h (by omega)
theorem df_19 : ∀ j, j < 3 → (lt_ 19 j).1 = 0 ∧ defaultValue (tyX3 j) = .int 0 ∨ (3 ≤ (lt_ 19 j).1 ∧ defaultValue (tyX3 j) = .null) := by
  intro j hj
  match j, hj with
  | 0, _ => exact Or.inr ⟨by decide, rfl⟩
  | 1, _ => exact Or.inr ⟨by decide, rfl⟩
  | 2, _ => exact Or.inl ⟨by decide, rfl⟩
  | (n + 3), h => exact absurd h (by omega)
theorem df_20 : ∀ j, j < 15 → (lt_ 20 j).1 = 0 ∧ defaultValue (tyX4 j) = .int 0 ∨ (3 ≤ (lt_ 20 j).1 ∧ defaultValue (tyX4 j) = .null) := by
  intro j hj
  match j, hj with
  | 0, _ => exact Or.inr ⟨by decide, rfl⟩
  | 1, _ => exact Or.inr ⟨by decide, rfl⟩
  | 2, _ => exact Or.inr ⟨by decide, rfl⟩
  | 3, _ => exact Or.inr ⟨by decide, rfl⟩
  | 4, _ => exact Or.inr ⟨by decide, rfl⟩
  | 5, _ => exact Or.inr ⟨by decide, rfl⟩
  | 6, _ => exact Or.inr ⟨by decide, rfl⟩
  | 7, _ => exact Or.inr ⟨by decide, rfl⟩
  | 8, _ => exact Or.inr ⟨by decide, rfl⟩
  | 9, _ => exact Or.inl ⟨by decide, rfl⟩
  | 10, _ => exact Or.inl ⟨by decide, rfl⟩
  | 11, _ => exact Or.inl ⟨by decide, rfl⟩
  | 12, _ => exact Or.inl ⟨by decide, rfl⟩
  | 13, _ => exact Or.inl ⟨by decide, rfl⟩
  | 14, _ => exact Or.inl ⟨by decide, rfl⟩
  | (n + 15), h => exact absurd h (by omega)
theorem df_4 : ∀ j, j < 6 → (lt_ 4 j).1 = 0 ∧ defaultValue (tyX5 j) = .int 0 ∨ (3 ≤ (lt_ 4 j).1 ∧ defaultValue (tyX5 j) = .null) := by
  intro j hj
  match j, hj with
  | 0, _ => exact Or.inl ⟨by decide, rfl⟩
  | 1, _ => exact Or.inl ⟨by decide, rfl⟩
  | 2, _ => exact Or.inl ⟨by decide, rfl⟩
  | 3, _ => exact Or.inl ⟨by decide, rfl⟩
  | 4, _ => exact Or.inl ⟨by decide, rfl⟩
  | 5, _ => exact Or.inl ⟨by decide, rfl⟩
  | (n + 6), h => exact absurd h (by omega)
theorem df_22 : ∀ j, j < 7 → (lt_ 22 j).1 = 0 ∧ defaultValue (tyX6 j) = .int 0 ∨ (3 ≤ (lt_ 22 j).1 ∧ defaultValue (tyX6 j) = .null) := by
  intro j hj
  match j, hj with
  | 0, _ => exact Or.inr ⟨by decide, rfl⟩
  | 1, _ => exact Or.inr ⟨by decide, rfl⟩
  | 2, _ => exact Or.inr ⟨by decide, rfl⟩
  | 3, _ => exact Or.inr ⟨by decide, rfl⟩
  | 4, _ => exact Or.inr ⟨by decide, rfl⟩
  | 5, _ => exact Or.inl ⟨by decide, rfl⟩
  | 6, _ => exact Or.inl ⟨by decide, rfl⟩
  | (n + 7), h => exact absurd h (by omega)
theorem df_23 : ∀ j, j < 4 → (lt_ 23 j).1 = 0 ∧ defaultValue (tyX7 j) = .int 0 ∨ (3 ≤ (lt_ 23 j).1 ∧ defaultValue (tyX7 j) = .null) := by
  intro j hj
  match j, hj with
  | 0, _ => exact Or.inr ⟨by decide, rfl⟩
  | 1, _ => exact Or.inl ⟨by decide, rfl⟩
  | 2, _ => exact Or.inl ⟨by decide, rfl⟩
  | 3, _ => exact Or.inl ⟨by decide, rfl⟩
  | (n + 4), h => exact absurd h (by omega)
theorem df_24 : ∀ j, j < 4 → (lt_ 24 j).1 = 0 ∧ defaultValue (tyX8 j) = .int 0 ∨ (3 ≤ (lt_ 24 j).1 ∧ defaultValue (tyX8 j) = .null) := by
  intro j hj
  match j, hj with
  | 0, _ => exact Or.inr ⟨by decide, rfl⟩
  | 1, _ => exact Or.inr ⟨by decide, rfl⟩
  | 2, _ => exact Or.inr ⟨by decide, rfl⟩
  | 3, _ => exact Or.inr ⟨by decide, rfl⟩
  | (n + 4), h => exact absurd h (by omega)
theorem df_25 : ∀ j, j < 24 → (lt_ 25 j).1 = 0 ∧ defaultValue (tyX9 j) = .int 0 ∨ (3 ≤ (lt_ 25 j).1 ∧ defaultValue (tyX9 j) = .null) := by
  intro j hj
  match j, hj with
  | 0, _ => exact Or.inr ⟨by decide, rfl⟩
  | 1, _ => exact Or.inr ⟨by decide, rfl⟩
  | 2, _ => exact Or.inr ⟨by decide, rfl⟩
  | 3, _ => exact Or.inr ⟨by decide, rfl⟩
  | 4, _ => exact Or.inr ⟨by decide, rfl⟩
  | 5, _ => exact Or.inr ⟨by decide, rfl⟩
  | 6, _ => exact Or.inr ⟨by decide, rfl⟩
  | 7, _ => exact Or.inr ⟨by decide, rfl⟩
  | 8, _ => exact Or.inr ⟨by decide, rfl⟩
  | 9, _ => exact Or.inr ⟨by decide, rfl⟩
  | 10, _ => exact Or.inr ⟨by decide, rfl⟩
  | 11, _ => exact Or.inr ⟨by decide, rfl⟩
  | 12, _ => exact Or.inr ⟨by decide, rfl⟩
  | 13, _ => exact Or.inl ⟨by decide, rfl⟩
  | 14, _ => exact Or.inl ⟨by decide, rfl⟩
  | 15, _ => exact Or.inl ⟨by decide, rfl⟩
  | 16, _ => exact Or.inl ⟨by decide, rfl⟩
  | 17, _ => exact Or.inl ⟨by decide, rfl⟩
  | 18, _ => exact Or.inl ⟨by decide, rfl⟩
  | 19, _ => exact Or.inl ⟨by decide, rfl⟩
  | 20, _ => exact Or.inl ⟨by decide, rfl⟩
  | 21, _ => exact Or.inl ⟨by decide, rfl⟩
  | 22, _ => exact Or.inl ⟨by decide, rfl⟩
  | 23, _ => exact Or.inl ⟨by decide, rfl⟩
  | (n + 24), h => exact absurd h (by omega)
theorem df_27 : ∀ j, j < 4 → (lt_ 27 j).1 = 0 ∧ defaultValue (tyX11 j) = .int 0 ∨ (3 ≤ (lt_ 27 j).1 ∧ defaultValue (tyX11 j) = .null) := by
  intro j hj
  match j, hj with
  | 0, _ => exact Or.inr ⟨by decide, rfl⟩
  | 1, _ => exact Or.inr ⟨by decide, rfl⟩
  | 2, _ => exact Or.inr ⟨by decide, rfl⟩
  | 3, _ => exact Or.inl ⟨by decide, rfl⟩
  | (n + 4), h => exact absurd h (by omega)
theorem df_28 : ∀ j, j < 4 → (lt_ 28 j).1 = 0 ∧ defaultValue (tyX12 j) = .int 0 ∨ (3 ≤ (lt_ 28 j).1 ∧ defaultValue (tyX12 j) = .null) := by
  intro j hj
  match j, hj with
  | 0, _ => exact Or.inr ⟨by decide, rfl⟩
  | 1, _ => exact Or.inl ⟨by decide, rfl⟩
  | 2, _ => exact Or.inl ⟨by decide, rfl⟩
  | 3, _ => exact Or.inl ⟨by decide, rfl⟩
  | (n + 4), h => exact absurd h (by omega)
theorem df_12 : ∀ j, j < 8 → (lt_ 12 j).1 = 0 ∧ defaultValue (tyX13 j) = .int 0 ∨ (3 ≤ (lt_ 12 j).1 ∧ defaultValue (tyX13 j) = .null) := by
  intro j hj
  match j, hj with
  | 0, _ => exact Or.inr ⟨by decide, rfl⟩
  | 1, _ => exact Or.inr ⟨by decide, rfl⟩
  | 2, _ => exact Or.inr ⟨by decide, rfl⟩
  | 3, _ => exact Or.inr ⟨by decide, rfl⟩
  | 4, _ => exact Or.inr ⟨by decide, rfl⟩
  | 5, _ => exact Or.inl ⟨by decide, rfl⟩
  | 6, _ => exact Or.inl ⟨by decide, rfl⟩
  | 7, _ => exact Or.inl ⟨by decide, rfl⟩
  | (n + 8), h => exact absurd h (by omega)
theorem df_30 : ∀ j, j < 2 → (lt_ 30 j).1 = 0 ∧ defaultValue (tyX14 j) = .int 0 ∨ (3 ≤ (lt_ 30 j).1 ∧ defaultValue (tyX14 j) = .null) := by
  intro j hj
  match j, hj with
  | 0, _ => exact Or.inr ⟨by decide, rfl⟩
  | 1, _ => exact Or.inr ⟨by decide, rfl⟩
  | (n + 2), h => exact absurd h (by omega)
theorem df_14 : ∀ j, j < 3 → (lt_ 14 j).1 = 0 ∧ defaultValue (tyX15 j) = .int 0 ∨ (3 ≤ (lt_ 14 j).1 ∧ defaultValue (tyX15 j) = .null) := by
  intro j hj
  match j, hj with
  | 0, _ => exact Or.inl ⟨by decide, rfl⟩
  | 1, _ => exact Or.inr ⟨by decide, rfl⟩
  | 2, _ => exact Or.inr ⟨by decide, rfl⟩
  | (n + 3), h => exact absurd h (by omega)
theorem df_15 : ∀ j, j < 1 → (lt_ 15 j).1 = 0 ∧ defaultValue (tyX16 j) = .int 0 ∨ (3 ≤ (lt_ 15 j).1 ∧ defaultValue (tyX16 j) = .null) := by
  intro j hj
  match j, hj with
  | 0, _ => exact Or.inl ⟨by decide, rfl⟩
  | (n + 1), h => exact absurd h (by omega)
theorem df_16 : ∀ j, j < 1 → (lt_ 16 j).1 = 0 ∧ defaultValue (tyX17 j) = .int 0 ∨ (3 ≤ (lt_ 16 j).1 ∧ defaultValue (tyX17 j) = .null) := by
  intro j hj
  match j, hj with
  | 0, _ => exact Or.inl ⟨by decide, rfl⟩
  | (n + 1), h => exact absurd h (by omega)
theorem hdI_X16 : yX16_init.name = "<init>" ∧ yX16_init.cls ≠ "java/lang/invoke/MethodHandle" ∧ yX16_init.cls ≠ "java/lang/invoke/VarHandle" ∧ (parseMethodDescriptor yX16_init.desc).map (fun d => d.parameters.length) = some 1 := by decide +kernel
theorem hdI_X17 : yX17_init.name = "<init>" ∧ yX17_init.cls ≠ "java/lang/invoke/MethodHandle" ∧ yX17_init.cls ≠ "java/lang/invoke/VarHandle" ∧ (parseMethodDescriptor yX17_init.desc).map (fun d => d.parameters.length) = some 1 := by decide +kernel
theorem hdI_X2 : yX2_init.name = "<init>" ∧ yX2_init.cls ≠ "java/lang/invoke/MethodHandle" ∧ yX2_init.cls ≠ "java/lang/invoke/VarHandle" ∧ (parseMethodDescriptor yX2_init.desc).map (fun d => d.parameters.length) = some 0 := by decide +kernel
theorem hdI_X14 : yX14_init.name = "<init>" ∧ yX14_init.cls ≠ "java/lang/invoke/MethodHandle" ∧ yX14_init.cls ≠ "java/lang/invoke/VarHandle" ∧ (parseMethodDescriptor yX14_init.desc).map (fun d => d.parameters.length) = some 1 := by decide +kernel
theorem hdI_X8 : yX8_init.name = "<init>" ∧ yX8_init.cls ≠ "java/lang/invoke/MethodHandle" ∧ yX8_init.cls ≠ "java/lang/invoke/VarHandle" ∧ (parseMethodDescriptor yX8_init.desc).map (fun d => d.parameters.length) = some 0 := by decide +kernel
theorem hdI_X3 : yX3_init.name = "<init>" ∧ yX3_init.cls ≠ "java/lang/invoke/MethodHandle" ∧ yX3_init.cls ≠ "java/lang/invoke/VarHandle" ∧ (parseMethodDescriptor yX3_init.desc).map (fun d => d.parameters.length) = some 0 := by decide +kernel
theorem hdI_X12 : yX12_init.name = "<init>" ∧ yX12_init.cls ≠ "java/lang/invoke/MethodHandle" ∧ yX12_init.cls ≠ "java/lang/invoke/VarHandle" ∧ (parseMethodDescriptor yX12_init.desc).map (fun d => d.parameters.length) = some 2 := by decide +kernel
theorem hdI_X7 : yX7_init.name = "<init>" ∧ yX7_init.cls ≠ "java/lang/invoke/MethodHandle" ∧ yX7_init.cls ≠ "java/lang/invoke/VarHandle" ∧ (parseMethodDescriptor yX7_init.desc).map (fun d => d.parameters.length) = some 0 := by decide +kernel
theorem hdI_X9 : yX9_init.name = "<init>" ∧ yX9_init.cls ≠ "java/lang/invoke/MethodHandle" ∧ yX9_init.cls ≠ "java/lang/invoke/VarHandle" ∧ (parseMethodDescriptor yX9_init.desc).map (fun d => d.parameters.length) = some 0 := by decide +kernel
theorem hdI_X11 : yX11_init.name = "<init>" ∧ yX11_init.cls ≠ "java/lang/invoke/MethodHandle" ∧ yX11_init.cls ≠ "java/lang/invoke/VarHandle" ∧ (parseMethodDescriptor yX11_init.desc).map (fun d => d.parameters.length) = some 1 := by decide +kernel
theorem hdI_X5 : yX5_init.name = "<init>" ∧ yX5_init.cls ≠ "java/lang/invoke/MethodHandle" ∧ yX5_init.cls ≠ "java/lang/invoke/VarHandle" ∧ (parseMethodDescriptor yX5_init.desc).map (fun d => d.parameters.length) = some 0 := by decide +kernel
theorem hdI_X6 : yX6_init.name = "<init>" ∧ yX6_init.cls ≠ "java/lang/invoke/MethodHandle" ∧ yX6_init.cls ≠ "java/lang/invoke/VarHandle" ∧ (parseMethodDescriptor yX6_init.desc).map (fun d => d.parameters.length) = some 1 := by decide +kernel
theorem hdI_X15 : yX15_init.name = "<init>" ∧ yX15_init.cls ≠ "java/lang/invoke/MethodHandle" ∧ yX15_init.cls ≠ "java/lang/invoke/VarHandle" ∧ (parseMethodDescriptor yX15_init.desc).map (fun d => d.parameters.length) = some 3 := by decide +kernel
theorem hdI_X4 : yX4_init.name = "<init>" ∧ yX4_init.cls ≠ "java/lang/invoke/MethodHandle" ∧ yX4_init.cls ≠ "java/lang/invoke/VarHandle" ∧ (parseMethodDescriptor yX4_init.desc).map (fun d => d.parameters.length) = some 1 := by decide +kernel
theorem hdV_X12_opens : yX12_opens.cls = RX12 ∧ yX12_opens.cls ≠ "java/lang/invoke/MethodHandle" ∧ yX12_opens.cls ≠ "java/lang/invoke/VarHandle" ∧ (parseMethodDescriptor yX12_opens.desc).map (fun d => d.parameters.length) = some 0 := by decide +kernel
theorem gwX14_opens_65 : GoodIn lw_all (wsV RX14 65 RX12 yX12_opens (ws_ yX12_opens cX12_opens 1 none)) := lw_V q1037 q1038 q1039 q111 q1040
theorem gwX14_skipsWord_68 : GoodIn lw_all (wsV RX14 68 RX12 yX12_skipsWord (ws_ yX12_skipsWord cX12_skipsWord 1 none)) := lw_V q1041 q956 q957 q111 q958
theorem gwX14_sign_71 : GoodIn lw_all (wsV RX14 71 RX12 yX12_sign (ws_ yX12_sign cX12_sign 2 none)) := lw_V q1042 q983 q984 q111 q985
theorem hdV_X14_sum : yX14_sum.cls = RX14 ∧ yX14_sum.cls ≠ "java/lang/invoke/MethodHandle" ∧ yX14_sum.cls ≠ "java/lang/invoke/VarHandle" ∧ (parseMethodDescriptor yX14_sum.desc).map (fun d => d.parameters.length) = some 0 := by decide +kernel
theorem gwX14_sum_33 : GoodIn lw_all (wsV RX14 33 RX14 yX14_sum (ws_ yX14_sum cX14_sum 2 (some (.object "RainWheel$Term")))) := lw_V q1022 q1024 qs18 q118 q1025
theorem hdV_X12_closes : yX12_closes.cls = RX12 ∧ yX12_closes.cls ≠ "java/lang/invoke/MethodHandle" ∧ yX12_closes.cls ≠ "java/lang/invoke/VarHandle" ∧ (parseMethodDescriptor yX12_closes.desc).map (fun d => d.parameters.length) = some 0 := by decide +kernel
theorem gwX14_closes_75 : GoodIn lw_all (wsV RX14 75 RX12 yX12_closes (ws_ yX12_closes cX12_closes 1 none)) := lw_V q1043 q1044 q1045 q111 q1046
theorem gwX14_isWord_59 : GoodIn lw_all (wsV RX14 59 RX12 yX12_isWord (ws_ yX12_isWord cX12_isWord 5 (some .boolean))) := lw_V q1035 q868 q869 q111 q870
theorem gwX14_now_78 : GoodIn lw_all (wsV RX14 78 RX12 yX12_now (ws_ yX12_now cX12_now 1 (some .int))) := lw_V q1063 q847 q848 q111 q849
theorem gwX14_which_82 : GoodIn lw_all (wsV RX14 82 RX12 yX12_which (ws_ yX12_which cX12_which 3 (some .int))) := lw_V q1064 q864 q865 q111 q866
theorem gwX14_number_88 : GoodIn lw_all (wsV RX14 88 RX12 yX12_number (ws_ yX12_number cX12_number 5 (some .int))) := lw_V q1067 q960 q961 q111 q962
theorem hdV_X12_takesSign : yX12_takesSign.cls = RX12 ∧ yX12_takesSign.cls ≠ "java/lang/invoke/MethodHandle" ∧ yX12_takesSign.cls ≠ "java/lang/invoke/VarHandle" ∧ (parseMethodDescriptor yX12_takesSign.desc).map (fun d => d.parameters.length) = some 1 := by decide +kernel
theorem gwX14_takesSign_45 : GoodIn lw_all (wsV RX14 45 RX12 yX12_takesSign (ws_ yX12_takesSign cX12_takesSign 3 (some .boolean))) := lw_V q1086 q1087 q1088 q111 q1089
theorem hdV_X14_value : yX14_value.cls = RX14 ∧ yX14_value.cls ≠ "java/lang/invoke/MethodHandle" ∧ yX14_value.cls ≠ "java/lang/invoke/VarHandle" ∧ (parseMethodDescriptor yX14_value.desc).map (fun d => d.parameters.length) = some 0 := by decide +kernel
theorem gwX14_value_54 : GoodIn lw_all (wsV RX14 54 RX14 yX14_value (ws_ yX14_value cX14_value 4 (some (.object "RainWheel$Term")))) := lw_V q1030 q1032 qs20 q118 q1033
theorem hdV_X14_product : yX14_product.cls = RX14 ∧ yX14_product.cls ≠ "java/lang/invoke/MethodHandle" ∧ yX14_product.cls ≠ "java/lang/invoke/VarHandle" ∧ (parseMethodDescriptor yX14_product.desc).map (fun d => d.parameters.length) = some 0 := by decide +kernel
theorem gwX14_product_42 : GoodIn lw_all (wsV RX14 42 RX14 yX14_product (ws_ yX14_product cX14_product 2 (some (.object "RainWheel$Term")))) := lw_V q1026 q1028 qs19 q118 q1029
theorem hdV_X1_reader : yX1_reader.cls = RX1 ∧ yX1_reader.cls ≠ "java/lang/invoke/MethodHandle" ∧ yX1_reader.cls ≠ "java/lang/invoke/VarHandle" ∧ (parseMethodDescriptor yX1_reader.desc).map (fun d => d.parameters.length) = some 1 := by decide +kernel
theorem gwX1_reader_131 : GoodIn lw_all (wsV RX1 131 RX1 yX1_reader (ws_ yX1_reader cX1_reader 2 (some (.object "RainWheel$Reader")))) := lw_V q786 q788 qs10 q96 q789
theorem hdV_X11_reads : yX11_reads.cls = RX11 ∧ yX11_reads.cls ≠ "java/lang/invoke/MethodHandle" ∧ yX11_reads.cls ≠ "java/lang/invoke/VarHandle" ∧ (parseMethodDescriptor yX11_reads.desc).map (fun d => d.parameters.length) = some 0 := by decide +kernel
theorem gwX1_reads_138 : GoodIn lw_all (wsV RX1 138 RX11 yX11_reads (ws_ yX11_reads cX11_reads 1 (some (.object "RainWheel$Road")))) := lw_V q842 q843 q844 q110 q845
theorem hdV_X1_faulty : yX1_faulty.cls = RX1 ∧ yX1_faulty.cls ≠ "java/lang/invoke/MethodHandle" ∧ yX1_faulty.cls ≠ "java/lang/invoke/VarHandle" ∧ (parseMethodDescriptor yX1_faulty.desc).map (fun d => d.parameters.length) = some 1 := by decide +kernel
theorem gwX1_faulty_142 : GoodIn lw_all (wsV RX1 142 RX1 yX1_faulty (ws_ yX1_faulty cX1_faulty 2 (some .int))) := lw_V q986 q988 qs17 q96 q989
theorem hdV_X12_ends : yX12_ends.cls = RX12 ∧ yX12_ends.cls ≠ "java/lang/invoke/MethodHandle" ∧ yX12_ends.cls ≠ "java/lang/invoke/VarHandle" ∧ (parseMethodDescriptor yX12_ends.desc).map (fun d => d.parameters.length) = some 0 := by decide +kernel
theorem gwX14_ends_37 : GoodIn lw_all (wsV RX14 37 RX12 yX12_ends (ws_ yX12_ends cX12_ends 1 none)) := lw_V q1090 q1091 q1092 q111 q1093
theorem hdV_X14_reads : yX14_reads.cls = RX14 ∧ yX14_reads.cls ≠ "java/lang/invoke/MethodHandle" ∧ yX14_reads.cls ≠ "java/lang/invoke/VarHandle" ∧ (parseMethodDescriptor yX14_reads.desc).map (fun d => d.parameters.length) = some 0 := by decide +kernel
theorem gwX1_reads_166 : GoodIn lw_all (wsV RX1 166 RX14 yX14_reads (ws_ yX14_reads cX14_reads 2 (some (.object "RainWheel$Term")))) := lw_V q1018 q1019 q1020 q118 q1021
theorem hdV_X3_reads : yX3_reads.cls = RX3 ∧ yX3_reads.cls ≠ "java/lang/invoke/MethodHandle" ∧ yX3_reads.cls ≠ "java/lang/invoke/VarHandle" ∧ (parseMethodDescriptor yX3_reads.desc).map (fun d => d.parameters.length) = some 2 := by decide +kernel
theorem gwX1_reads_169 : GoodIn lw_all (wsV RX1 169 RX3 yX3_reads (ws_ yX3_reads cX3_reads 9 none)) := lw_V q1101 q1102 q1103 q98 q1104
theorem gwX1_now_176 : GoodIn lw_all (wsV RX1 176 RX12 yX12_now (ws_ yX12_now cX12_now 1 (some .int))) := lw_V q1119 q847 q848 q111 q849
theorem gwX1_place_180 : GoodIn lw_all (wsV RX1 180 RX12 yX12_place (ws_ yX12_place cX12_place 1 (some .int))) := lw_V q1120 q859 q860 q111 q861
theorem gwX1_number_182 : GoodIn lw_all (wsV RX1 182 RX12 yX12_number (ws_ yX12_number cX12_number 5 (some .int))) := lw_V q1121 q960 q961 q111 q962
theorem gwX1_sign_187 : GoodIn lw_all (wsV RX1 187 RX12 yX12_sign (ws_ yX12_sign cX12_sign 2 none)) := lw_V q1123 q983 q984 q111 q985
theorem gwX1_lasts_261 : GoodIn lw_all (wsV RX1 261 RX2 yX2_lasts (ws_ yX2_lasts cX2_lasts 2 (some .int))) := lw_V q1198 q591 q592 q97 q593
set_option maxHeartbeats 4000000 in
theorem con_xLaw_init (wf : Bool) (o : Nat) (K : Nat → Nat) (sz : Nat) (hKS : KS wf K sz K sz) (hK0 : K o = 2) (g : GS) (r : S3) (h : xLaw_init o K sz g = some r) : ConA wf sz yX2_init cX2_init 1 none 2 160 K (fun b => [.ref (b + o)]) g (fun r => ((fun _ => none), r)) (.inr r) := by
  refine ConA.of RX2 (by decide) rfl (fun b => Nat.le_of_ble_eq_true rfl) (fun x hX hnm => ?_)
  have X := hX.1
  have h0K := hKS.2.2.1
  have hK0e := hK0
  unfold xLaw_init at h
  show V x 1 K (sz - sz) (600 * (sz - sz)) sz g 0 [(0, .ref (xb x + o))] []
  refine V_aload_n X dX2_init_0 0 rfl ?_
  refine V_objI X q139 ⟨Nat.le_of_ble_eq_true rfl, Nat.le_of_ble_eq_true rfl⟩ dX2_init_1 ?_
  have hr := Option.some.inj h
  subst hr
  exact V_endA_v hX rfl hKS dX2_init_4
set_option maxHeartbeats 4000000 in
theorem con_xPlan_init (wf : Bool) (o : Nat) (K : Nat → Nat) (sz : Nat) (hKS : KS wf K sz K sz) (hK0 : K o = 20) (g : GS) (r : S3) (h : xPlan_init o K sz g = some r) : ConA wf sz yX3_init cX3_init 1 none 2 160 K (fun b => [.ref (b + o)]) g (fun r => ((fun _ => none), r)) (.inr r) := by
  refine ConA.of RX3 (by decide) rfl (fun b => Nat.le_of_ble_eq_true rfl) (fun x hX hnm => ?_)
  have X := hX.1
  have h0K := hKS.2.2.1
  have hK0e := hK0
  unfold xPlan_init at h
  show V x 1 K (sz - sz) (600 * (sz - sz)) sz g 0 [(0, .ref (xb x + o))] []
  refine V_aload_n X dX3_init_0 0 rfl ?_
  refine V_objI X q151 ⟨Nat.le_of_ble_eq_true rfl, Nat.le_of_ble_eq_true rfl⟩ dX3_init_1 ?_
  refine V_aload_n X dX3_init_4 0 rfl ?_
  refine V_bipush X dX3_init_5 (by decide) ?_
  obtain ⟨hm, h⟩ := lim_some h
  refine V_newarrA (at' := .int) (t := 0) (N := 12) X hX.2.2.2.1 hX.hA hm (by decide) rfl q168 (by decide) dX3_init_7 ?_
  have hK0 := ku_kp (kd := 10012) hKS hK0
  have hKS := hKS.upw (kd := 10012) hm rfl
  have hN7 := (ku_self : ku K sz 10012 sz = 10012)
  refine V_putF (ty := (.array .int)) (ci := 19) (N := 3) (C := RX3) (T := TX3) (o := o) (j := 0) (a := ((sz : Nat) : Int)) X hnm rfl in_X3 tyX3 tyX3_ok nmX3 (by decide) hK0 (by decide) rfl rfl pfd_AI rfl rfl q152 (fv_3i rfl (by rw [gI_sI, if_pos ⟨rfl, rfl⟩])) dX3_init_9 ?_
  refine V_aload_n X dX3_init_12 0 rfl ?_
  refine V_bipush X dX3_init_13 (by decide) ?_
  obtain ⟨hm, h⟩ := lim_some h
  refine V_newarrA (at' := .int) (t := 0) (N := 12) X hX.2.2.2.1 hX.hA hm (by decide) rfl q168 (by decide) dX3_init_15 ?_
  have hK0 := ku_kp (kd := 10012) hKS hK0
  have hN7 := ku_kp (kd := 10012) hKS hN7
  have hKS := hKS.upw (kd := 10012) hm rfl
  have hN15 := (ku_self : ku (ku K sz 10012) (sz + 1) 10012 (sz + 1) = 10012)
  refine V_putF (ty := (.array .int)) (ci := 19) (N := 3) (C := RX3) (T := TX3) (o := o) (j := 1) (a := (((sz + 1) : Nat) : Int)) X hnm rfl in_X3 tyX3 tyX3_ok nmX3 (by decide) hK0 (by decide) rfl rfl pfd_AI rfl rfl q155 (fv_3i rfl (by rw [gI_sI, if_pos ⟨rfl, rfl⟩])) dX3_init_17 ?_
  have hr := Option.some.inj h
  subst hr
  exact V_endA_v hX rfl hKS dX3_init_20
set_option maxHeartbeats 4000000 in
theorem con_xSight_init (wf : Bool) (o : Nat) (K : Nat → Nat) (sz : Nat) (hKS : KS wf K sz K sz) (hK0 : K o = 5) (g : GS) (r : S3) (h : xSight_init o K sz g = some r) : ConA wf sz yX5_init cX5_init 1 none 2 160 K (fun b => [.ref (b + o)]) g (fun r => ((fun _ => none), r)) (.inr r) := by
  refine ConA.of RX5 (by decide) rfl (fun b => Nat.le_of_ble_eq_true rfl) (fun x hX hnm => ?_)
  have X := hX.1
  have h0K := hKS.2.2.1
  have hK0e := hK0
  unfold xSight_init at h
  show V x 1 K (sz - sz) (600 * (sz - sz)) sz g 0 [(0, .ref (xb x + o))] []
  refine V_aload_n X dX5_init_0 0 rfl ?_
  refine V_objI X q184 ⟨Nat.le_of_ble_eq_true rfl, Nat.le_of_ble_eq_true rfl⟩ dX5_init_1 ?_
  have hr := Option.some.inj h
  subst hr
  exact V_endA_v hX rfl hKS dX5_init_4
set_option maxHeartbeats 4000000 in
theorem con_xWatch_init (wf : Bool) (o : Nat) (l1 : Nat) (K : Nat → Nat) (sz : Nat) (hKS : KS wf K sz K sz) (hK0 : K o = 21) (hK1 : K l1 = 2) (g : GS) (r : S3) (h : xWatch_init o l1 K sz g = some r) : ConA wf sz yX4_init cX4_init 2 none 7 180 K (fun b => [.ref (b + o), .ref (b + l1)]) g (fun r => ((fun _ => none), r)) (.inr r) := by
  refine ConA.of RX4 (by decide) rfl (fun b => Nat.le_of_ble_eq_true rfl) (fun x hX hnm => ?_)
  have X := hX.1
  have h0K := hKS.2.2.1
  have hK0e := hK0
  have hK1e := hK1
  unfold xWatch_init at h
  show V x 2 K (sz - sz) (600 * (sz - sz)) sz g 0 [(0, .ref (xb x + o)), (1, .ref (xb x + l1))] []
  refine V_aload_n X dX4_init_0 0 rfl ?_
  refine V_objI X q178 ⟨Nat.le_of_ble_eq_true rfl, Nat.le_of_ble_eq_true rfl⟩ dX4_init_1 ?_
  refine V_aload_n X dX4_init_4 0 rfl ?_
  refine V_bipush X dX4_init_5 (by decide) ?_
  obtain ⟨hm, h⟩ := lim_some h
  refine V_newarrA (at' := .int) (t := 0) (N := 12) X hX.2.2.2.1 hX.hA hm (by decide) rfl q168 (by decide) dX4_init_7 ?_
  have hK0 := ku_kp (kd := 10012) hKS hK0
  have hK1 := ku_kp (kd := 10012) hKS hK1
  have hKS := hKS.upw (kd := 10012) hm rfl
  have hN7 := (ku_self : ku K sz 10012 sz = 10012)
  refine V_putF (ty := (.array .int)) (ci := 20) (N := 15) (C := RX4) (T := TX4) (o := o) (j := 0) (a := ((sz : Nat) : Int)) X hnm rfl in_X4 tyX4 tyX4_ok nmX4 (by decide) hK0 (by decide) rfl rfl pfd_AI rfl rfl q217 (fv_3i rfl (by rw [gI_sI, if_pos ⟨rfl, rfl⟩])) dX4_init_9 ?_
  refine V_aload_n X dX4_init_12 0 rfl ?_
  refine V_bipush X dX4_init_13 (by decide) ?_
  obtain ⟨hm, h⟩ := lim_some h
  refine V_newarrA (at' := .int) (t := 0) (N := 12) X hX.2.2.2.1 hX.hA hm (by decide) rfl q168 (by decide) dX4_init_15 ?_
  have hK0 := ku_kp (kd := 10012) hKS hK0
  have hK1 := ku_kp (kd := 10012) hKS hK1
  have hN7 := ku_kp (kd := 10012) hKS hN7
  have hKS := hKS.upw (kd := 10012) hm rfl
  have hN15 := (ku_self : ku (ku K sz 10012) (sz + 1) 10012 (sz + 1) = 10012)
  refine V_putF (ty := (.array .int)) (ci := 20) (N := 15) (C := RX4) (T := TX4) (o := o) (j := 1) (a := (((sz + 1) : Nat) : Int)) X hnm rfl in_X4 tyX4 tyX4_ok nmX4 (by decide) hK0 (by decide) rfl rfl pfd_AI rfl rfl q219 (fv_3i rfl (by rw [gI_sI, if_pos ⟨rfl, rfl⟩])) dX4_init_17 ?_
  refine V_aload_n X dX4_init_20 0 rfl ?_
  refine V_bipush X dX4_init_21 (by decide) ?_
  obtain ⟨hm, h⟩ := lim_some h
  refine V_newarrA (at' := .int) (t := 0) (N := 12) X hX.2.2.2.1 hX.hA hm (by decide) rfl q168 (by decide) dX4_init_23 ?_
  have hK0 := ku_kp (kd := 10012) hKS hK0
  have hK1 := ku_kp (kd := 10012) hKS hK1
  have hN7 := ku_kp (kd := 10012) hKS hN7
  have hN15 := ku_kp (kd := 10012) hKS hN15
  have hKS := hKS.upw (kd := 10012) hm rfl
  have hN23 := (ku_self : ku (ku (ku K sz 10012) (sz + 1) 10012) ((sz + 1) + 1) 10012 ((sz + 1) + 1) = 10012)
  refine V_putF (ty := (.array .int)) (ci := 20) (N := 15) (C := RX4) (T := TX4) (o := o) (j := 2) (a := ((((sz + 1) + 1) : Nat) : Int)) X hnm rfl in_X4 tyX4 tyX4_ok nmX4 (by decide) hK0 (by decide) rfl rfl pfd_AI rfl rfl q221 (fv_3i rfl (by rw [gI_sI, if_pos ⟨rfl, rfl⟩])) dX4_init_25 ?_
  refine V_aload_n X dX4_init_28 0 rfl ?_
  refine V_iconst X dX4_init_29 ?_
  obtain ⟨hm, h⟩ := lim_some h
  refine V_newarrA (at' := .int) (t := 0) (N := 4) X hX.2.2.2.1 hX.hA hm (by decide) rfl q168 (by decide) dX4_init_30 ?_
  have hK0 := ku_kp (kd := 10004) hKS hK0
  have hK1 := ku_kp (kd := 10004) hKS hK1
  have hN7 := ku_kp (kd := 10004) hKS hN7
  have hN15 := ku_kp (kd := 10004) hKS hN15
  have hN23 := ku_kp (kd := 10004) hKS hN23
  have hKS := hKS.upw (kd := 10004) hm rfl
  have hN30 := (ku_self : ku (ku (ku (ku K sz 10012) (sz + 1) 10012) ((sz + 1) + 1) 10012) (((sz + 1) + 1) + 1) 10004 (((sz + 1) + 1) + 1) = 10004)
  refine V_putF (ty := (.array .int)) (ci := 20) (N := 15) (C := RX4) (T := TX4) (o := o) (j := 3) (a := (((((sz + 1) + 1) + 1) : Nat) : Int)) X hnm rfl in_X4 tyX4 tyX4_ok nmX4 (by decide) hK0 (by decide) rfl rfl pfd_AI rfl rfl q222 (fv_3i rfl (by rw [gI_sI, if_pos ⟨rfl, rfl⟩])) dX4_init_32 ?_
  refine V_aload_n X dX4_init_35 0 rfl ?_
  refine V_iconst X dX4_init_36 ?_
  obtain ⟨hm, h⟩ := lim_some h
  refine V_newarrA (at' := .int) (t := 0) (N := 4) X hX.2.2.2.1 hX.hA hm (by decide) rfl q168 (by decide) dX4_init_37 ?_
  have hK0 := ku_kp (kd := 10004) hKS hK0
  have hK1 := ku_kp (kd := 10004) hKS hK1
  have hN7 := ku_kp (kd := 10004) hKS hN7
  have hN15 := ku_kp (kd := 10004) hKS hN15
  have hN23 := ku_kp (kd := 10004) hKS hN23
  have hN30 := ku_kp (kd := 10004) hKS hN30
  have hKS := hKS.upw (kd := 10004) hm rfl
  have hN37 := (ku_self : ku (ku (ku (ku (ku K sz 10012) (sz + 1) 10012) ((sz + 1) + 1) 10012) (((sz + 1) + 1) + 1) 10004) ((((sz + 1) + 1) + 1) + 1) 10004 ((((sz + 1) + 1) + 1) + 1) = 10004)
  refine V_putF (ty := (.array .int)) (ci := 20) (N := 15) (C := RX4) (T := TX4) (o := o) (j := 4) (a := ((((((sz + 1) + 1) + 1) + 1) : Nat) : Int)) X hnm rfl in_X4 tyX4 tyX4_ok nmX4 (by decide) hK0 (by decide) rfl rfl pfd_AI rfl rfl q223 (fv_3i rfl (by rw [gI_sI, if_pos ⟨rfl, rfl⟩])) dX4_init_39 ?_
  refine V_aload_n X dX4_init_42 0 rfl ?_
  refine V_iconst X dX4_init_43 ?_
  obtain ⟨hm, h⟩ := lim_some h
  refine V_newarrA (at' := .int) (t := 0) (N := 4) X hX.2.2.2.1 hX.hA hm (by decide) rfl q168 (by decide) dX4_init_44 ?_
  have hK0 := ku_kp (kd := 10004) hKS hK0
  have hK1 := ku_kp (kd := 10004) hKS hK1
  have hN7 := ku_kp (kd := 10004) hKS hN7
  have hN15 := ku_kp (kd := 10004) hKS hN15
  have hN23 := ku_kp (kd := 10004) hKS hN23
  have hN30 := ku_kp (kd := 10004) hKS hN30
  have hN37 := ku_kp (kd := 10004) hKS hN37
  have hKS := hKS.upw (kd := 10004) hm rfl
  have hN44 := (ku_self : ku (ku (ku (ku (ku (ku K sz 10012) (sz + 1) 10012) ((sz + 1) + 1) 10012) (((sz + 1) + 1) + 1) 10004) ((((sz + 1) + 1) + 1) + 1) 10004) (((((sz + 1) + 1) + 1) + 1) + 1) 10004 (((((sz + 1) + 1) + 1) + 1) + 1) = 10004)
  refine V_putF (ty := (.array .int)) (ci := 20) (N := 15) (C := RX4) (T := TX4) (o := o) (j := 5) (a := (((((((sz + 1) + 1) + 1) + 1) + 1) : Nat) : Int)) X hnm rfl in_X4 tyX4 tyX4_ok nmX4 (by decide) hK0 (by decide) rfl rfl pfd_AI rfl rfl q225 (fv_3i rfl (by rw [gI_sI, if_pos ⟨rfl, rfl⟩])) dX4_init_46 ?_
  refine V_aload_n X dX4_init_49 0 rfl ?_
  obtain ⟨hm, h⟩ := lim_some h
  have hz50 := hKS.1
  refine V_newA (ci := 4) (N := 6) (C := RX5) (T := TX5) X hX.2.2.2.1 hX.hA hm rfl in_X5 tyX5 tyX5_ok (by decide) (by decide) q179 q180 q100 df_4 dX4_init_50 ?_
  have hK0 := ku_kp (kd := 5) hKS hK0
  have hK1 := ku_kp (kd := 5) hKS hK1
  have hN7 := ku_kp (kd := 5) hKS hN7
  have hN15 := ku_kp (kd := 5) hKS hN15
  have hN23 := ku_kp (kd := 5) hKS hN23
  have hN30 := ku_kp (kd := 5) hKS hN30
  have hN37 := ku_kp (kd := 5) hKS hN37
  have hN44 := ku_kp (kd := 5) hKS hN44
  have hKS := hKS.upw (kd := 5) hm rfl
  have hN50 := (ku_self : ku (ku (ku (ku (ku (ku (ku K sz 10012) (sz + 1) 10012) ((sz + 1) + 1) 10012) (((sz + 1) + 1) + 1) 10004) ((((sz + 1) + 1) + 1) + 1) 10004) (((((sz + 1) + 1) + 1) + 1) + 1) 10004) ((((((sz + 1) + 1) + 1) + 1) + 1) + 1) 5 ((((((sz + 1) + 1) + 1) + 1) + 1) + 1) = 5)
  refine V_dup X dX4_init_53 rfl ?_
  obtain ⟨c54, hc54, h⟩ := bind_some_eq h
  refine V_callINA (As := []) (rest := [.ref (xb x + ((((((sz + 1) + 1) + 1) + 1) + 1) + 1)), .ref (xb x + o)]) (s1 := [.ref (xb x + ((((((sz + 1) + 1) + 1) + 1) + 1) + 1)), .ref (xb x + o)]) (o := ((((((sz + 1) + 1) + 1) + 1) + 1) + 1)) X hX.2.2.2.1 hX.hA hKS.2.1 (con_xSight_init wf ((((((sz + 1) + 1) + 1) + 1) + 1) + 1) (ku (ku (ku (ku (ku (ku (ku K sz 10012) (sz + 1) 10012) ((sz + 1) + 1) 10012) (((sz + 1) + 1) + 1) 10004) ((((sz + 1) + 1) + 1) + 1) 10004) (((((sz + 1) + 1) + 1) + 1) + 1) 10004) ((((((sz + 1) + 1) + 1) + 1) + 1) + 1) 5) (((((((sz + 1) + 1) + 1) + 1) + 1) + 1) + 1) hKS.here hN50 (newI 4 ((((((sz + 1) + 1) + 1) + 1) + 1) + 1) (sI (newA (((((sz + 1) + 1) + 1) + 1) + 1) 0 (sI (newA ((((sz + 1) + 1) + 1) + 1) 0 (sI (newA (((sz + 1) + 1) + 1) 0 (sI (newA ((sz + 1) + 1) 0 (sI (newA (sz + 1) 0 (sI (newA sz 0 g) 2000 o ((sz : Nat) : Int))) 2001 o (((sz + 1) : Nat) : Int))) 2002 o ((((sz + 1) + 1) : Nat) : Int))) 2003 o (((((sz + 1) + 1) + 1) : Nat) : Int))) 2004 o ((((((sz + 1) + 1) + 1) + 1) : Nat) : Int))) 2005 o (((((((sz + 1) + 1) + 1) + 1) + 1) : Nat) : Int))) c54 hc54) q181 q182 q100 q183 hdI_X5 ⟨Nat.le_of_ble_eq_true rfl, Nat.le_of_ble_eq_true rfl⟩ rfl rfl (Nat.le_of_ble_eq_true rfl) dX4_init_54 rfl rfl (fun hKSc => ?_)
  have hK0 := hKS.kp hKSc hK0
  have hK1 := hKS.kp hKSc hK1
  have hN7 := hKS.kp hKSc hN7
  have hN15 := hKS.kp hKSc hN15
  have hN23 := hKS.kp hKSc hN23
  have hN30 := hKS.kp hKSc hN30
  have hN37 := hKS.kp hKSc hN37
  have hN44 := hKS.kp hKSc hN44
  have hN50 := hKS.kp hKSc hN50
  have hKS := hKS.tr hKSc
  refine V_putF (ty := (.object "RainWheel$Sight")) (ci := 20) (N := 15) (C := RX4) (T := TX4) (o := o) (j := 6) (a := ((((((((sz + 1) + 1) + 1) + 1) + 1) + 1) : Nat) : Int)) X hnm rfl in_X4 tyX4 tyX4_ok nmX4 (by decide) hK0 (by decide) rfl rfl pfd_LSight rfl rfl q227 (fv_3i rfl (by rw [gI_sI, if_pos ⟨rfl, rfl⟩])) dX4_init_57 ?_
  refine V_aload_n X dX4_init_60 0 rfl ?_
  refine V_iconst X dX4_init_61 ?_
  refine V_put (ty := .int) (ci := 20) (N := 15) (C := RX4) (T := TX4) (o := o) (j := 12) (a := (-1)) X rfl in_X4 tyX4 tyX4_ok nmX4 (by decide) hK0 (by decide) rfl pfd_I rfl rfl q236 (by rw [fv_0 rfl, gI_sI, if_pos ⟨rfl, rfl⟩]) dX4_init_62 ?_
  refine V_aload_n X dX4_init_65 0 rfl ?_
  refine V_aload_n X dX4_init_66 1 rfl ?_
  refine V_putF (ty := (.object "RainWheel$Law")) (ci := 20) (N := 15) (C := RX4) (T := TX4) (o := o) (j := 7) (a := ((l1 : Nat) : Int)) X hnm rfl in_X4 tyX4 tyX4_ok nmX4 (by decide) hK0 (by decide) rfl rfl pfd_LLaw rfl rfl q228 (fv_3i rfl (by rw [gI_sI, if_pos ⟨rfl, rfl⟩])) dX4_init_67 ?_
  have hr := Option.some.inj h
  subst hr
  exact V_endA_v hX rfl hKS dX4_init_70
set_option maxHeartbeats 4000000 in
theorem con_xSoonest_init (wf : Bool) (N : Nat) (o : Nat) (l1 : Nat) (K : Nat → Nat) (sz : Nat) (hKS : KS wf K sz K sz) (hK0 : K o = 23) (hK1 : K l1 = 2) (g : GS) (r : S3) (h : xSoonest_init N o l1 K sz g = some r) : ConA wf sz yX6_init cX6_init 3 none 8 201 K (fun b => [.ref (b + o), .ref (b + l1)]) g (fun r => ((fun _ => none), r)) (.inr r) := by
  refine ConA.of RX6 (by decide) rfl (fun b => Nat.le_of_ble_eq_true rfl) (fun x hX hnm => ?_)
  have X := hX.1
  have h0K := hKS.2.2.1
  have hK0e := hK0
  have hK1e := hK1
  have LL43 : ∀  (n : Nat) (s : (S3 × Int)) (e : S3), loopN (fun s => xSoonest_init_b43 N o l1 s.1 s.2) n s = some e → (e = r) → KS wf K sz s.1.1 s.1.2.1 → V x 3 s.1.1 (s.1.2.1 - sz) (600 * (s.1.2.1 - sz)) s.1.2.1 s.1.2.2 43 [(0, .ref (xb x + o)), (1, .ref (xb x + l1)), (2, vI s.2)] [] := by
    intro  n s e
    refine loop_walk (P := fun s => KS wf K sz s.1.1 s.1.2.1 → V x 3 s.1.1 (s.1.2.1 - sz) (600 * (s.1.2.1 - sz)) s.1.2.1 s.1.2.2 43 [(0, .ref (xb x + o)), (1, .ref (xb x + l1)), (2, vI s.2)] []) (E := fun e => e = r) ?_ n s e
    clear e s n
    rintro ⟨g, l2⟩ qv43 h hc43 he43
    intro hKS
    have hK0 := hKS.keep h0K hK0e
    have hK1 := hKS.keep h0K hK1e
    replace h : xSoonest_init_b43 N o l1 g l2 = some qv43 := h
    unfold xSoonest_init_b43 at h
    show V x 3 g.1 (g.2.1 - sz) (600 * (g.2.1 - sz)) g.2.1 g.2.2 43 [(0, .ref (xb x + o)), (1, .ref (xb x + l1)), (2, vI l2)] []
    refine V_iload_n X dX6_init_43 2 rfl ?_
    refine V_iconst X dX6_init_44 ?_
    refine V_icmp_gt (tgt := 68) X dX6_init_45 (by decide) h (fun h => ?_) (fun h => ?_)
    · obtain ⟨e1, h, e1q⟩ := outR_some h
      replace h := h.trans (congrArg some (he43 _ e1q))
      have hr := Option.some.inj h
      subst hr
      exact V_endA_v hX rfl hKS dX6_init_68
    · refine V_aload_n X dX6_init_48 0 rfl ?_
      obtain ⟨i49, hvi49, hki49, h⟩ := rdR_some h
      refine V_get (ci := 22) (N := 7) (C := RX6) (T := TX6) (o := o) (j := 0) X rfl in_X6 (by decide) hK0 (by decide) q279 (fv_3i rfl hvi49) dX6_init_49 ?_
      refine V_iload_n X dX6_init_52 2 rfl ?_
      obtain ⟨hm, h⟩ := lim_some h
      have hz53 := hKS.1
      refine V_newA (ci := 20) (N := 15) (C := RX4) (T := TX4) X hX.2.2.2.1 hX.hA hm rfl in_X4 tyX4 tyX4_ok (by decide) (by decide) q276 q174 q99 df_20 dX6_init_53 ?_
      have hK0 := ku_kp (kd := 21) hKS hK0
      have hK1 := ku_kp (kd := 21) hKS hK1
      have hki49 := ku_kp (kd := 21) hKS hki49
      have hKS := hKS.upw (kd := 21) hm rfl
      have hN53 := (ku_self : ku g.1 g.2.1 21 g.2.1 = 21)
      refine V_dup X dX6_init_56 rfl ?_
      refine V_aload_n X dX6_init_57 1 rfl ?_
      obtain ⟨c58, hc58, h⟩ := bind_some_eq h
      refine V_callIA (As := [.ref (xb x + l1)]) (rest := [.ref (xb x + g.2.1), vI l2, .ref (xb x + i49)]) (s1 := [.ref (xb x + g.2.1), vI l2, .ref (xb x + i49)]) (o := g.2.1) X hX.2.2.2.1 hX.hA hKS.2.1 (con_xWatch_init wf g.2.1 l1 (ku g.1 g.2.1 21) (g.2.1 + 1) hKS.here hN53 hK1 (newI 20 g.2.1 g.2.2) c58 hc58) q278 q176 q99 q177 hdI_X4 ⟨Nat.le_of_ble_eq_true rfl, Nat.le_of_ble_eq_true rfl⟩ rfl rfl (Nat.le_of_ble_eq_true rfl) dX6_init_58 rfl rfl (fun hKSc => ?_)
      have hK0 := hKS.kp hKSc hK0
      have hK1 := hKS.kp hKSc hK1
      have hki49 := hKS.kp hKSc hki49
      have hN53 := hKS.kp hKSc hN53
      have hKS := hKS.tr hKSc
      obtain ⟨hdn, h⟩ := dnP_some h
      refine V_done (ci := 3) (N := 15) (o := g.2.1) X (C := RX4) (T := TX4) rfl rfl (by decide) (by decide) hN53 hdn ?_
      have hK0 := ku_kd (ci := 3) hN53 hK0
      have hK1 := ku_kd (ci := 3) hN53 hK1
      have hki49 := ku_kd (ci := 3) hN53 hki49
      have hKS := hKS.done (ci := 3) (by omega) (by decide) hN53 hdn
      have hN53d := (ku_self : ku c58.1 g.2.1 4 g.2.1 = 4)
      refine V_aast (t := 6) (ci := 3) (v := g.2.1) (N := 15) (C := RX4) (T := TX4) (n := 6) (o := i49) X (by decide) (by decide) rfl rfl (by decide) hN53d hki49 (by decide) dX6_init_61 h (fun g61 h => ?_)
      refine V_iinc X dX6_init_62 2 rfl (by decide) (L' := [(2, vI (l2 + 1)), (0, .ref (xb x + o)), (1, .ref (xb x + l1))]) rfl ?_
      refine V_goto (tgt := 43) X dX6_init_65 (by decide) ?_
      exact V_sub [1, 2, 0] rfl (hc43 _ (Option.some.inj h).symm hKS)
  unfold xSoonest_init at h
  show V x 3 K (sz - sz) (600 * (sz - sz)) sz g 0 [(0, .ref (xb x + o)), (1, .ref (xb x + l1))] []
  refine V_aload_n X dX6_init_0 0 rfl ?_
  refine V_objI X q275 ⟨Nat.le_of_ble_eq_true rfl, Nat.le_of_ble_eq_true rfl⟩ dX6_init_1 ?_
  refine V_aload_n X dX6_init_4 0 rfl ?_
  refine V_bipush X dX6_init_5 (by decide) ?_
  obtain ⟨hm, h⟩ := lim_some h
  refine V_anewarrA (t := 6) (N := 6) (C := "RainWheel$Watch") X hX.2.2.2.1 hX.hA hm (by decide) (by decide) rfl q276 q277 (by decide) dX6_init_7 ?_
  have hK0 := ku_kp (kd := 70006) hKS hK0
  have hK1 := ku_kp (kd := 70006) hKS hK1
  have hKS := hKS.upw (kd := 70006) hm rfl
  have hN7 := (ku_self : ku K sz 70006 sz = 70006)
  refine V_putF (ty := (.array (.object "RainWheel$Watch"))) (ci := 22) (N := 7) (C := RX6) (T := TX6) (o := o) (j := 0) (a := ((sz : Nat) : Int)) X hnm rfl in_X6 tyX6 tyX6_ok nmX6 (by decide) hK0 (by decide) rfl rfl pfd_ALWatch rfl rfl q279 (fv_3i rfl (by rw [gI_sI, if_pos ⟨rfl, rfl⟩])) dX6_init_10 ?_
  refine V_aload_n X dX6_init_13 0 rfl ?_
  refine V_iconst X dX6_init_14 ?_
  obtain ⟨hm, h⟩ := lim_some h
  refine V_newarrA (at' := .int) (t := 0) (N := 5) X hX.2.2.2.1 hX.hA hm (by decide) rfl q168 (by decide) dX6_init_15 ?_
  have hK0 := ku_kp (kd := 10005) hKS hK0
  have hK1 := ku_kp (kd := 10005) hKS hK1
  have hN7 := ku_kp (kd := 10005) hKS hN7
  have hKS := hKS.upw (kd := 10005) hm rfl
  have hN15 := (ku_self : ku (ku K sz 70006) (sz + 1) 10005 (sz + 1) = 10005)
  refine V_putF (ty := (.array .int)) (ci := 22) (N := 7) (C := RX6) (T := TX6) (o := o) (j := 1) (a := (((sz + 1) : Nat) : Int)) X hnm rfl in_X6 tyX6 tyX6_ok nmX6 (by decide) hK0 (by decide) rfl rfl pfd_AI rfl rfl q280 (fv_3i rfl (by rw [gI_sI, if_pos ⟨rfl, rfl⟩])) dX6_init_17 ?_
  refine V_aload_n X dX6_init_20 0 rfl ?_
  refine V_iconst X dX6_init_21 ?_
  obtain ⟨hm, h⟩ := lim_some h
  refine V_newarrA (at' := .int) (t := 0) (N := 5) X hX.2.2.2.1 hX.hA hm (by decide) rfl q168 (by decide) dX6_init_22 ?_
  have hK0 := ku_kp (kd := 10005) hKS hK0
  have hK1 := ku_kp (kd := 10005) hKS hK1
  have hN7 := ku_kp (kd := 10005) hKS hN7
  have hN15 := ku_kp (kd := 10005) hKS hN15
  have hKS := hKS.upw (kd := 10005) hm rfl
  have hN22 := (ku_self : ku (ku (ku K sz 70006) (sz + 1) 10005) ((sz + 1) + 1) 10005 ((sz + 1) + 1) = 10005)
  refine V_putF (ty := (.array .int)) (ci := 22) (N := 7) (C := RX6) (T := TX6) (o := o) (j := 2) (a := ((((sz + 1) + 1) : Nat) : Int)) X hnm rfl in_X6 tyX6 tyX6_ok nmX6 (by decide) hK0 (by decide) rfl rfl pfd_AI rfl rfl q281 (fv_3i rfl (by rw [gI_sI, if_pos ⟨rfl, rfl⟩])) dX6_init_24 ?_
  refine V_aload_n X dX6_init_27 0 rfl ?_
  refine V_iconst X dX6_init_28 ?_
  obtain ⟨hm, h⟩ := lim_some h
  refine V_newarrA (at' := .int) (t := 0) (N := 5) X hX.2.2.2.1 hX.hA hm (by decide) rfl q168 (by decide) dX6_init_29 ?_
  have hK0 := ku_kp (kd := 10005) hKS hK0
  have hK1 := ku_kp (kd := 10005) hKS hK1
  have hN7 := ku_kp (kd := 10005) hKS hN7
  have hN15 := ku_kp (kd := 10005) hKS hN15
  have hN22 := ku_kp (kd := 10005) hKS hN22
  have hKS := hKS.upw (kd := 10005) hm rfl
  have hN29 := (ku_self : ku (ku (ku (ku K sz 70006) (sz + 1) 10005) ((sz + 1) + 1) 10005) (((sz + 1) + 1) + 1) 10005 (((sz + 1) + 1) + 1) = 10005)
  refine V_putF (ty := (.array .int)) (ci := 22) (N := 7) (C := RX6) (T := TX6) (o := o) (j := 3) (a := (((((sz + 1) + 1) + 1) : Nat) : Int)) X hnm rfl in_X6 tyX6 tyX6_ok nmX6 (by decide) hK0 (by decide) rfl rfl pfd_AI rfl rfl q282 (fv_3i rfl (by rw [gI_sI, if_pos ⟨rfl, rfl⟩])) dX6_init_31 ?_
  refine V_aload_n X dX6_init_34 0 rfl ?_
  refine V_iconst X dX6_init_35 ?_
  obtain ⟨hm, h⟩ := lim_some h
  refine V_newarrA (at' := .int) (t := 0) (N := 5) X hX.2.2.2.1 hX.hA hm (by decide) rfl q168 (by decide) dX6_init_36 ?_
  have hK0 := ku_kp (kd := 10005) hKS hK0
  have hK1 := ku_kp (kd := 10005) hKS hK1
  have hN7 := ku_kp (kd := 10005) hKS hN7
  have hN15 := ku_kp (kd := 10005) hKS hN15
  have hN22 := ku_kp (kd := 10005) hKS hN22
  have hN29 := ku_kp (kd := 10005) hKS hN29
  have hKS := hKS.upw (kd := 10005) hm rfl
  have hN36 := (ku_self : ku (ku (ku (ku (ku K sz 70006) (sz + 1) 10005) ((sz + 1) + 1) 10005) (((sz + 1) + 1) + 1) 10005) ((((sz + 1) + 1) + 1) + 1) 10005 ((((sz + 1) + 1) + 1) + 1) = 10005)
  refine V_putF (ty := (.array .int)) (ci := 22) (N := 7) (C := RX6) (T := TX6) (o := o) (j := 4) (a := ((((((sz + 1) + 1) + 1) + 1) : Nat) : Int)) X hnm rfl in_X6 tyX6 tyX6_ok nmX6 (by decide) hK0 (by decide) rfl rfl pfd_AI rfl rfl q284 (fv_3i rfl (by rw [gI_sI, if_pos ⟨rfl, rfl⟩])) dX6_init_38 ?_
  refine V_iconst X dX6_init_41 ?_
  refine V_istore_n X dX6_init_42 (by decide) (L' := [(2, vI 0), (0, .ref (xb x + o)), (1, .ref (xb x + l1))]) rfl ?_
  exact V_sub [1, 2, 0] rfl (LL43 N (((ku (ku (ku (ku (ku K sz 70006) (sz + 1) 10005) ((sz + 1) + 1) 10005) (((sz + 1) + 1) + 1) 10005) ((((sz + 1) + 1) + 1) + 1) 10005), (((((sz + 1) + 1) + 1) + 1) + 1), (sI (newA ((((sz + 1) + 1) + 1) + 1) 0 (sI (newA (((sz + 1) + 1) + 1) 0 (sI (newA ((sz + 1) + 1) 0 (sI (newA (sz + 1) 0 (sI (newA sz (-1) g) 2200 o ((sz : Nat) : Int))) 2201 o (((sz + 1) : Nat) : Int))) 2202 o ((((sz + 1) + 1) : Nat) : Int))) 2203 o (((((sz + 1) + 1) + 1) : Nat) : Int))) 2204 o ((((((sz + 1) + 1) + 1) + 1) : Nat) : Int))), 0) _ h rfl hKS)
set_option maxHeartbeats 4000000 in
theorem con_xRing_init (wf : Bool) (o : Nat) (K : Nat → Nat) (sz : Nat) (hKS : KS wf K sz K sz) (hK0 : K o = 24) (g : GS) (r : S3) (h : xRing_init o K sz g = some r) : ConA wf sz yX7_init cX7_init 1 none 2 160 K (fun b => [.ref (b + o)]) g (fun r => ((fun _ => none), r)) (.inr r) := by
  refine ConA.of RX7 (by decide) rfl (fun b => Nat.le_of_ble_eq_true rfl) (fun x hX hnm => ?_)
  have X := hX.1
  have h0K := hKS.2.2.1
  have hK0e := hK0
  unfold xRing_init at h
  show V x 1 K (sz - sz) (600 * (sz - sz)) sz g 0 [(0, .ref (xb x + o))] []
  refine V_aload_n X dX7_init_0 0 rfl ?_
  refine V_objI X q310 ⟨Nat.le_of_ble_eq_true rfl, Nat.le_of_ble_eq_true rfl⟩ dX7_init_1 ?_
  refine V_aload_n X dX7_init_4 0 rfl ?_
  refine V_bipush X dX7_init_5 (by decide) ?_
  obtain ⟨hm, h⟩ := lim_some h
  refine V_newarrA (at' := .int) (t := 0) (N := 6) X hX.2.2.2.1 hX.hA hm (by decide) rfl q168 (by decide) dX7_init_7 ?_
  have hK0 := ku_kp (kd := 10006) hKS hK0
  have hKS := hKS.upw (kd := 10006) hm rfl
  have hN7 := (ku_self : ku K sz 10006 sz = 10006)
  refine V_putF (ty := (.array .int)) (ci := 23) (N := 4) (C := RX7) (T := TX7) (o := o) (j := 0) (a := ((sz : Nat) : Int)) X hnm rfl in_X7 tyX7 tyX7_ok nmX7 (by decide) hK0 (by decide) rfl rfl pfd_AI rfl rfl q311 (fv_3i rfl (by rw [gI_sI, if_pos ⟨rfl, rfl⟩])) dX7_init_9 ?_
  have hr := Option.some.inj h
  subst hr
  exact V_endA_v hX rfl hKS dX7_init_12
set_option maxHeartbeats 4000000 in
theorem con_xMiles_init (wf : Bool) (o : Nat) (K : Nat → Nat) (sz : Nat) (hKS : KS wf K sz K sz) (hK0 : K o = 25) (g : GS) (r : S3) (h : xMiles_init o K sz g = some r) : ConA wf sz yX8_init cX8_init 1 none 2 160 K (fun b => [.ref (b + o)]) g (fun r => ((fun _ => none), r)) (.inr r) := by
  refine ConA.of RX8 (by decide) rfl (fun b => Nat.le_of_ble_eq_true rfl) (fun x hX hnm => ?_)
  have X := hX.1
  have h0K := hKS.2.2.1
  have hK0e := hK0
  unfold xMiles_init at h
  show V x 1 K (sz - sz) (600 * (sz - sz)) sz g 0 [(0, .ref (xb x + o))] []
  refine V_aload_n X dX8_init_0 0 rfl ?_
  refine V_objI X q331 ⟨Nat.le_of_ble_eq_true rfl, Nat.le_of_ble_eq_true rfl⟩ dX8_init_1 ?_
  refine V_aload_n X dX8_init_4 0 rfl ?_
  refine V_bipush X dX8_init_5 (by decide) ?_
  obtain ⟨hm, h⟩ := lim_some h
  refine V_newarrA (at' := .int) (t := 0) (N := 100) X hX.2.2.2.1 hX.hA hm (by decide) rfl q168 (by decide) dX8_init_7 ?_
  have hK0 := ku_kp (kd := 10100) hKS hK0
  have hKS := hKS.upw (kd := 10100) hm rfl
  have hN7 := (ku_self : ku K sz 10100 sz = 10100)
  refine V_putF (ty := (.array .int)) (ci := 24) (N := 4) (C := RX8) (T := TX8) (o := o) (j := 0) (a := ((sz : Nat) : Int)) X hnm rfl in_X8 tyX8 tyX8_ok nmX8 (by decide) hK0 (by decide) rfl rfl pfd_AI rfl rfl q332 (fv_3i rfl (by rw [gI_sI, if_pos ⟨rfl, rfl⟩])) dX8_init_9 ?_
  refine V_aload_n X dX8_init_12 0 rfl ?_
  refine V_bipush X dX8_init_13 (by decide) ?_
  obtain ⟨hm, h⟩ := lim_some h
  refine V_newarrA (at' := .int) (t := 0) (N := 100) X hX.2.2.2.1 hX.hA hm (by decide) rfl q168 (by decide) dX8_init_15 ?_
  have hK0 := ku_kp (kd := 10100) hKS hK0
  have hN7 := ku_kp (kd := 10100) hKS hN7
  have hKS := hKS.upw (kd := 10100) hm rfl
  have hN15 := (ku_self : ku (ku K sz 10100) (sz + 1) 10100 (sz + 1) = 10100)
  refine V_putF (ty := (.array .int)) (ci := 24) (N := 4) (C := RX8) (T := TX8) (o := o) (j := 1) (a := (((sz + 1) : Nat) : Int)) X hnm rfl in_X8 tyX8 tyX8_ok nmX8 (by decide) hK0 (by decide) rfl rfl pfd_AI rfl rfl q334 (fv_3i rfl (by rw [gI_sI, if_pos ⟨rfl, rfl⟩])) dX8_init_17 ?_
  refine V_aload_n X dX8_init_20 0 rfl ?_
  refine V_bipush X dX8_init_21 (by decide) ?_
  obtain ⟨hm, h⟩ := lim_some h
  refine V_newarrA (at' := .int) (t := 0) (N := 100) X hX.2.2.2.1 hX.hA hm (by decide) rfl q168 (by decide) dX8_init_23 ?_
  have hK0 := ku_kp (kd := 10100) hKS hK0
  have hN7 := ku_kp (kd := 10100) hKS hN7
  have hN15 := ku_kp (kd := 10100) hKS hN15
  have hKS := hKS.upw (kd := 10100) hm rfl
  have hN23 := (ku_self : ku (ku (ku K sz 10100) (sz + 1) 10100) ((sz + 1) + 1) 10100 ((sz + 1) + 1) = 10100)
  refine V_putF (ty := (.array .int)) (ci := 24) (N := 4) (C := RX8) (T := TX8) (o := o) (j := 2) (a := ((((sz + 1) + 1) : Nat) : Int)) X hnm rfl in_X8 tyX8 tyX8_ok nmX8 (by decide) hK0 (by decide) rfl rfl pfd_AI rfl rfl q336 (fv_3i rfl (by rw [gI_sI, if_pos ⟨rfl, rfl⟩])) dX8_init_25 ?_
  refine V_aload_n X dX8_init_28 0 rfl ?_
  refine V_bipush X dX8_init_29 (by decide) ?_
  obtain ⟨hm, h⟩ := lim_some h
  refine V_newarrA (at' := .int) (t := 0) (N := 100) X hX.2.2.2.1 hX.hA hm (by decide) rfl q168 (by decide) dX8_init_31 ?_
  have hK0 := ku_kp (kd := 10100) hKS hK0
  have hN7 := ku_kp (kd := 10100) hKS hN7
  have hN15 := ku_kp (kd := 10100) hKS hN15
  have hN23 := ku_kp (kd := 10100) hKS hN23
  have hKS := hKS.upw (kd := 10100) hm rfl
  have hN31 := (ku_self : ku (ku (ku (ku K sz 10100) (sz + 1) 10100) ((sz + 1) + 1) 10100) (((sz + 1) + 1) + 1) 10100 (((sz + 1) + 1) + 1) = 10100)
  refine V_putF (ty := (.array .int)) (ci := 24) (N := 4) (C := RX8) (T := TX8) (o := o) (j := 3) (a := (((((sz + 1) + 1) + 1) : Nat) : Int)) X hnm rfl in_X8 tyX8 tyX8_ok nmX8 (by decide) hK0 (by decide) rfl rfl pfd_AI rfl rfl q337 (fv_3i rfl (by rw [gI_sI, if_pos ⟨rfl, rfl⟩])) dX8_init_33 ?_
  have hr := Option.some.inj h
  subst hr
  exact V_endA_v hX rfl hKS dX8_init_36
set_option maxHeartbeats 4000000 in
theorem con_xRoad_init (wf : Bool) (N : Nat) (o : Nat) (K : Nat → Nat) (sz : Nat) (hKS : KS wf K sz K sz) (hK0 : K o = 26) (g : GS) (r : S3) (h : xRoad_init N o K sz g = some r) : ConA wf sz yX9_init cX9_init 2 none 2 160 K (fun b => [.ref (b + o)]) g (fun r => ((fun _ => none), r)) (.inr r) := by
  refine ConA.of RX9 (by decide) rfl (fun b => Nat.le_of_ble_eq_true rfl) (fun x hX hnm => ?_)
  have X := hX.1
  have h0K := hKS.2.2.1
  have hK0e := hK0
  have LL132 : ∀  (n : Nat) (s : (S3 × Int)) (e : S3), loopN (fun s => xRoad_init_b132 N o s.1 s.2) n s = some e → (e = r) → KS wf K sz s.1.1 s.1.2.1 → V x 2 s.1.1 (s.1.2.1 - sz) (600 * (s.1.2.1 - sz)) s.1.2.1 s.1.2.2 132 [(0, .ref (xb x + o)), (1, vI s.2)] [] := by
    intro  n s e
    refine loop_walk (P := fun s => KS wf K sz s.1.1 s.1.2.1 → V x 2 s.1.1 (s.1.2.1 - sz) (600 * (s.1.2.1 - sz)) s.1.2.1 s.1.2.2 132 [(0, .ref (xb x + o)), (1, vI s.2)] []) (E := fun e => e = r) ?_ n s e
    clear e s n
    rintro ⟨g, l1⟩ qv132 h hc132 he132
    intro hKS
    have hK0 := hKS.keep h0K hK0e
    replace h : xRoad_init_b132 N o g l1 = some qv132 := h
    unfold xRoad_init_b132 at h
    show V x 2 g.1 (g.2.1 - sz) (600 * (g.2.1 - sz)) g.2.1 g.2.2 132 [(0, .ref (xb x + o)), (1, vI l1)] []
    refine V_iload_n X dX9_init_132 1 rfl ?_
    refine V_bipush X dX9_init_133 (by decide) ?_
    refine V_icmp_ge (tgt := 151) X dX9_init_135 (by decide) h (fun h => ?_) (fun h => ?_)
    · obtain ⟨e1, h, e1q⟩ := outR_some h
      replace h := h.trans (congrArg some (he132 _ e1q))
      have hr := Option.some.inj h
      subst hr
      exact V_endA_v hX rfl hKS dX9_init_151
    · refine V_aload_n X dX9_init_138 0 rfl ?_
      obtain ⟨i139, hvi139, hki139, h⟩ := rdR_some h
      refine V_get (ci := 25) (N := 24) (C := RX9) (T := TX9) (o := o) (j := 8) X rfl in_X9 (by decide) hK0 (by decide) q381 (fv_3i rfl hvi139) dX9_init_139 ?_
      refine V_iload_n X dX9_init_142 1 rfl ?_
      refine V_iconst X dX9_init_143 ?_
      refine V_iast X (o := i139) (n := 60) hki139 (by decide) dX9_init_144 h (fun g144 h => ?_)
      refine V_iinc X dX9_init_145 1 rfl (by decide) (L' := [(1, vI (l1 + 1)), (0, .ref (xb x + o))]) rfl ?_
      refine V_goto (tgt := 132) X dX9_init_148 (by decide) ?_
      exact V_sub [1, 0] rfl (hc132 _ (Option.some.inj h).symm hKS)
  unfold xRoad_init at h
  show V x 2 K (sz - sz) (600 * (sz - sz)) sz g 0 [(0, .ref (xb x + o))] []
  refine V_aload_n X dX9_init_0 0 rfl ?_
  refine V_objI X q352 ⟨Nat.le_of_ble_eq_true rfl, Nat.le_of_ble_eq_true rfl⟩ dX9_init_1 ?_
  refine V_aload_n X dX9_init_4 0 rfl ?_
  refine V_iconst X dX9_init_5 ?_
  obtain ⟨hm, h⟩ := lim_some h
  refine V_newarrA (at' := .int) (t := 0) (N := 4) X hX.2.2.2.1 hX.hA hm (by decide) rfl q168 (by decide) dX9_init_6 ?_
  have hK0 := ku_kp (kd := 10004) hKS hK0
  have hKS := hKS.upw (kd := 10004) hm rfl
  have hN6 := (ku_self : ku K sz 10004 sz = 10004)
  refine V_putF (ty := (.array .int)) (ci := 25) (N := 24) (C := RX9) (T := TX9) (o := o) (j := 0) (a := ((sz : Nat) : Int)) X hnm rfl in_X9 tyX9 tyX9_ok nmX9 (by decide) hK0 (by decide) rfl rfl pfd_AI rfl rfl q355 (fv_3i rfl (by rw [gI_sI, if_pos ⟨rfl, rfl⟩])) dX9_init_8 ?_
  refine V_aload_n X dX9_init_11 0 rfl ?_
  refine V_bipush X dX9_init_12 (by decide) ?_
  obtain ⟨hm, h⟩ := lim_some h
  refine V_newarrA (at' := .int) (t := 0) (N := 12) X hX.2.2.2.1 hX.hA hm (by decide) rfl q168 (by decide) dX9_init_14 ?_
  have hK0 := ku_kp (kd := 10012) hKS hK0
  have hN6 := ku_kp (kd := 10012) hKS hN6
  have hKS := hKS.upw (kd := 10012) hm rfl
  have hN14 := (ku_self : ku (ku K sz 10004) (sz + 1) 10012 (sz + 1) = 10012)
  refine V_putF (ty := (.array .int)) (ci := 25) (N := 24) (C := RX9) (T := TX9) (o := o) (j := 1) (a := (((sz + 1) : Nat) : Int)) X hnm rfl in_X9 tyX9 tyX9_ok nmX9 (by decide) hK0 (by decide) rfl rfl pfd_AI rfl rfl q358 (fv_3i rfl (by rw [gI_sI, if_pos ⟨rfl, rfl⟩])) dX9_init_16 ?_
  refine V_aload_n X dX9_init_19 0 rfl ?_
  refine V_bipush X dX9_init_20 (by decide) ?_
  obtain ⟨hm, h⟩ := lim_some h
  refine V_newarrA (at' := .int) (t := 0) (N := 12) X hX.2.2.2.1 hX.hA hm (by decide) rfl q168 (by decide) dX9_init_22 ?_
  have hK0 := ku_kp (kd := 10012) hKS hK0
  have hN6 := ku_kp (kd := 10012) hKS hN6
  have hN14 := ku_kp (kd := 10012) hKS hN14
  have hKS := hKS.upw (kd := 10012) hm rfl
  have hN22 := (ku_self : ku (ku (ku K sz 10004) (sz + 1) 10012) ((sz + 1) + 1) 10012 ((sz + 1) + 1) = 10012)
  refine V_putF (ty := (.array .int)) (ci := 25) (N := 24) (C := RX9) (T := TX9) (o := o) (j := 2) (a := ((((sz + 1) + 1) : Nat) : Int)) X hnm rfl in_X9 tyX9 tyX9_ok nmX9 (by decide) hK0 (by decide) rfl rfl pfd_AI rfl rfl q362 (fv_3i rfl (by rw [gI_sI, if_pos ⟨rfl, rfl⟩])) dX9_init_24 ?_
  refine V_aload_n X dX9_init_27 0 rfl ?_
  refine V_bipush X dX9_init_28 (by decide) ?_
  obtain ⟨hm, h⟩ := lim_some h
  refine V_newarrA (at' := .int) (t := 0) (N := 12) X hX.2.2.2.1 hX.hA hm (by decide) rfl q168 (by decide) dX9_init_30 ?_
  have hK0 := ku_kp (kd := 10012) hKS hK0
  have hN6 := ku_kp (kd := 10012) hKS hN6
  have hN14 := ku_kp (kd := 10012) hKS hN14
  have hN22 := ku_kp (kd := 10012) hKS hN22
  have hKS := hKS.upw (kd := 10012) hm rfl
  have hN30 := (ku_self : ku (ku (ku (ku K sz 10004) (sz + 1) 10012) ((sz + 1) + 1) 10012) (((sz + 1) + 1) + 1) 10012 (((sz + 1) + 1) + 1) = 10012)
  refine V_putF (ty := (.array .int)) (ci := 25) (N := 24) (C := RX9) (T := TX9) (o := o) (j := 3) (a := (((((sz + 1) + 1) + 1) : Nat) : Int)) X hnm rfl in_X9 tyX9 tyX9_ok nmX9 (by decide) hK0 (by decide) rfl rfl pfd_AI rfl rfl q366 (fv_3i rfl (by rw [gI_sI, if_pos ⟨rfl, rfl⟩])) dX9_init_32 ?_
  refine V_aload_n X dX9_init_35 0 rfl ?_
  refine V_bipush X dX9_init_36 (by decide) ?_
  obtain ⟨hm, h⟩ := lim_some h
  refine V_newarrA (at' := .int) (t := 0) (N := 12) X hX.2.2.2.1 hX.hA hm (by decide) rfl q168 (by decide) dX9_init_38 ?_
  have hK0 := ku_kp (kd := 10012) hKS hK0
  have hN6 := ku_kp (kd := 10012) hKS hN6
  have hN14 := ku_kp (kd := 10012) hKS hN14
  have hN22 := ku_kp (kd := 10012) hKS hN22
  have hN30 := ku_kp (kd := 10012) hKS hN30
  have hKS := hKS.upw (kd := 10012) hm rfl
  have hN38 := (ku_self : ku (ku (ku (ku (ku K sz 10004) (sz + 1) 10012) ((sz + 1) + 1) 10012) (((sz + 1) + 1) + 1) 10012) ((((sz + 1) + 1) + 1) + 1) 10012 ((((sz + 1) + 1) + 1) + 1) = 10012)
  refine V_putF (ty := (.array .int)) (ci := 25) (N := 24) (C := RX9) (T := TX9) (o := o) (j := 4) (a := ((((((sz + 1) + 1) + 1) + 1) : Nat) : Int)) X hnm rfl in_X9 tyX9 tyX9_ok nmX9 (by decide) hK0 (by decide) rfl rfl pfd_AI rfl rfl q370 (fv_3i rfl (by rw [gI_sI, if_pos ⟨rfl, rfl⟩])) dX9_init_40 ?_
  refine V_aload_n X dX9_init_43 0 rfl ?_
  refine V_bipush X dX9_init_44 (by decide) ?_
  obtain ⟨hm, h⟩ := lim_some h
  refine V_newarrA (at' := .int) (t := 0) (N := 12) X hX.2.2.2.1 hX.hA hm (by decide) rfl q168 (by decide) dX9_init_46 ?_
  have hK0 := ku_kp (kd := 10012) hKS hK0
  have hN6 := ku_kp (kd := 10012) hKS hN6
  have hN14 := ku_kp (kd := 10012) hKS hN14
  have hN22 := ku_kp (kd := 10012) hKS hN22
  have hN30 := ku_kp (kd := 10012) hKS hN30
  have hN38 := ku_kp (kd := 10012) hKS hN38
  have hKS := hKS.upw (kd := 10012) hm rfl
  have hN46 := (ku_self : ku (ku (ku (ku (ku (ku K sz 10004) (sz + 1) 10012) ((sz + 1) + 1) 10012) (((sz + 1) + 1) + 1) 10012) ((((sz + 1) + 1) + 1) + 1) 10012) (((((sz + 1) + 1) + 1) + 1) + 1) 10012 (((((sz + 1) + 1) + 1) + 1) + 1) = 10012)
  refine V_putF (ty := (.array .int)) (ci := 25) (N := 24) (C := RX9) (T := TX9) (o := o) (j := 5) (a := (((((((sz + 1) + 1) + 1) + 1) + 1) : Nat) : Int)) X hnm rfl in_X9 tyX9 tyX9_ok nmX9 (by decide) hK0 (by decide) rfl rfl pfd_AI rfl rfl q373 (fv_3i rfl (by rw [gI_sI, if_pos ⟨rfl, rfl⟩])) dX9_init_48 ?_
  refine V_aload_n X dX9_init_51 0 rfl ?_
  refine V_bipush X dX9_init_52 (by decide) ?_
  obtain ⟨hm, h⟩ := lim_some h
  refine V_newarrA (at' := .int) (t := 0) (N := 6) X hX.2.2.2.1 hX.hA hm (by decide) rfl q168 (by decide) dX9_init_54 ?_
  have hK0 := ku_kp (kd := 10006) hKS hK0
  have hN6 := ku_kp (kd := 10006) hKS hN6
  have hN14 := ku_kp (kd := 10006) hKS hN14
  have hN22 := ku_kp (kd := 10006) hKS hN22
  have hN30 := ku_kp (kd := 10006) hKS hN30
  have hN38 := ku_kp (kd := 10006) hKS hN38
  have hN46 := ku_kp (kd := 10006) hKS hN46
  have hKS := hKS.upw (kd := 10006) hm rfl
  have hN54 := (ku_self : ku (ku (ku (ku (ku (ku (ku K sz 10004) (sz + 1) 10012) ((sz + 1) + 1) 10012) (((sz + 1) + 1) + 1) 10012) ((((sz + 1) + 1) + 1) + 1) 10012) (((((sz + 1) + 1) + 1) + 1) + 1) 10012) ((((((sz + 1) + 1) + 1) + 1) + 1) + 1) 10006 ((((((sz + 1) + 1) + 1) + 1) + 1) + 1) = 10006)
  refine V_putF (ty := (.array .int)) (ci := 25) (N := 24) (C := RX9) (T := TX9) (o := o) (j := 6) (a := ((((((((sz + 1) + 1) + 1) + 1) + 1) + 1) : Nat) : Int)) X hnm rfl in_X9 tyX9 tyX9_ok nmX9 (by decide) hK0 (by decide) rfl rfl pfd_AI rfl rfl q377 (fv_3i rfl (by rw [gI_sI, if_pos ⟨rfl, rfl⟩])) dX9_init_56 ?_
  refine V_aload_n X dX9_init_59 0 rfl ?_
  refine V_bipush X dX9_init_60 (by decide) ?_
  obtain ⟨hm, h⟩ := lim_some h
  refine V_newarrA (at' := .int) (t := 0) (N := 6) X hX.2.2.2.1 hX.hA hm (by decide) rfl q168 (by decide) dX9_init_62 ?_
  have hK0 := ku_kp (kd := 10006) hKS hK0
  have hN6 := ku_kp (kd := 10006) hKS hN6
  have hN14 := ku_kp (kd := 10006) hKS hN14
  have hN22 := ku_kp (kd := 10006) hKS hN22
  have hN30 := ku_kp (kd := 10006) hKS hN30
  have hN38 := ku_kp (kd := 10006) hKS hN38
  have hN46 := ku_kp (kd := 10006) hKS hN46
  have hN54 := ku_kp (kd := 10006) hKS hN54
  have hKS := hKS.upw (kd := 10006) hm rfl
  have hN62 := (ku_self : ku (ku (ku (ku (ku (ku (ku (ku K sz 10004) (sz + 1) 10012) ((sz + 1) + 1) 10012) (((sz + 1) + 1) + 1) 10012) ((((sz + 1) + 1) + 1) + 1) 10012) (((((sz + 1) + 1) + 1) + 1) + 1) 10012) ((((((sz + 1) + 1) + 1) + 1) + 1) + 1) 10006) (((((((sz + 1) + 1) + 1) + 1) + 1) + 1) + 1) 10006 (((((((sz + 1) + 1) + 1) + 1) + 1) + 1) + 1) = 10006)
  refine V_putF (ty := (.array .int)) (ci := 25) (N := 24) (C := RX9) (T := TX9) (o := o) (j := 7) (a := (((((((((sz + 1) + 1) + 1) + 1) + 1) + 1) + 1) : Nat) : Int)) X hnm rfl in_X9 tyX9 tyX9_ok nmX9 (by decide) hK0 (by decide) rfl rfl pfd_AI rfl rfl q379 (fv_3i rfl (by rw [gI_sI, if_pos ⟨rfl, rfl⟩])) dX9_init_64 ?_
  refine V_aload_n X dX9_init_67 0 rfl ?_
  refine V_bipush X dX9_init_68 (by decide) ?_
  obtain ⟨hm, h⟩ := lim_some h
  refine V_newarrA (at' := .int) (t := 0) (N := 60) X hX.2.2.2.1 hX.hA hm (by decide) rfl q168 (by decide) dX9_init_70 ?_
  have hK0 := ku_kp (kd := 10060) hKS hK0
  have hN6 := ku_kp (kd := 10060) hKS hN6
  have hN14 := ku_kp (kd := 10060) hKS hN14
  have hN22 := ku_kp (kd := 10060) hKS hN22
  have hN30 := ku_kp (kd := 10060) hKS hN30
  have hN38 := ku_kp (kd := 10060) hKS hN38
  have hN46 := ku_kp (kd := 10060) hKS hN46
  have hN54 := ku_kp (kd := 10060) hKS hN54
  have hN62 := ku_kp (kd := 10060) hKS hN62
  have hKS := hKS.upw (kd := 10060) hm rfl
  have hN70 := (ku_self : ku (ku (ku (ku (ku (ku (ku (ku (ku K sz 10004) (sz + 1) 10012) ((sz + 1) + 1) 10012) (((sz + 1) + 1) + 1) 10012) ((((sz + 1) + 1) + 1) + 1) 10012) (((((sz + 1) + 1) + 1) + 1) + 1) 10012) ((((((sz + 1) + 1) + 1) + 1) + 1) + 1) 10006) (((((((sz + 1) + 1) + 1) + 1) + 1) + 1) + 1) 10006) ((((((((sz + 1) + 1) + 1) + 1) + 1) + 1) + 1) + 1) 10060 ((((((((sz + 1) + 1) + 1) + 1) + 1) + 1) + 1) + 1) = 10060)
  refine V_putF (ty := (.array .int)) (ci := 25) (N := 24) (C := RX9) (T := TX9) (o := o) (j := 8) (a := ((((((((((sz + 1) + 1) + 1) + 1) + 1) + 1) + 1) + 1) : Nat) : Int)) X hnm rfl in_X9 tyX9 tyX9_ok nmX9 (by decide) hK0 (by decide) rfl rfl pfd_AI rfl rfl q381 (fv_3i rfl (by rw [gI_sI, if_pos ⟨rfl, rfl⟩])) dX9_init_72 ?_
  refine V_aload_n X dX9_init_75 0 rfl ?_
  refine V_bipush X dX9_init_76 (by decide) ?_
  obtain ⟨hm, h⟩ := lim_some h
  refine V_newarrA (at' := .int) (t := 0) (N := 6) X hX.2.2.2.1 hX.hA hm (by decide) rfl q168 (by decide) dX9_init_78 ?_
  have hK0 := ku_kp (kd := 10006) hKS hK0
  have hN6 := ku_kp (kd := 10006) hKS hN6
  have hN14 := ku_kp (kd := 10006) hKS hN14
  have hN22 := ku_kp (kd := 10006) hKS hN22
  have hN30 := ku_kp (kd := 10006) hKS hN30
  have hN38 := ku_kp (kd := 10006) hKS hN38
  have hN46 := ku_kp (kd := 10006) hKS hN46
  have hN54 := ku_kp (kd := 10006) hKS hN54
  have hN62 := ku_kp (kd := 10006) hKS hN62
  have hN70 := ku_kp (kd := 10006) hKS hN70
  have hKS := hKS.upw (kd := 10006) hm rfl
  have hN78 := (ku_self : ku (ku (ku (ku (ku (ku (ku (ku (ku (ku K sz 10004) (sz + 1) 10012) ((sz + 1) + 1) 10012) (((sz + 1) + 1) + 1) 10012) ((((sz + 1) + 1) + 1) + 1) 10012) (((((sz + 1) + 1) + 1) + 1) + 1) 10012) ((((((sz + 1) + 1) + 1) + 1) + 1) + 1) 10006) (((((((sz + 1) + 1) + 1) + 1) + 1) + 1) + 1) 10006) ((((((((sz + 1) + 1) + 1) + 1) + 1) + 1) + 1) + 1) 10060) (((((((((sz + 1) + 1) + 1) + 1) + 1) + 1) + 1) + 1) + 1) 10006 (((((((((sz + 1) + 1) + 1) + 1) + 1) + 1) + 1) + 1) + 1) = 10006)
  refine V_putF (ty := (.array .int)) (ci := 25) (N := 24) (C := RX9) (T := TX9) (o := o) (j := 9) (a := (((((((((((sz + 1) + 1) + 1) + 1) + 1) + 1) + 1) + 1) + 1) : Nat) : Int)) X hnm rfl in_X9 tyX9 tyX9_ok nmX9 (by decide) hK0 (by decide) rfl rfl pfd_AI rfl rfl q384 (fv_3i rfl (by rw [gI_sI, if_pos ⟨rfl, rfl⟩])) dX9_init_80 ?_
  refine V_aload_n X dX9_init_83 0 rfl ?_
  refine V_bipush X dX9_init_84 (by decide) ?_
  obtain ⟨hm, h⟩ := lim_some h
  refine V_newarrA (at' := .int) (t := 0) (N := 8) X hX.2.2.2.1 hX.hA hm (by decide) rfl q168 (by decide) dX9_init_86 ?_
  have hK0 := ku_kp (kd := 10008) hKS hK0
  have hN6 := ku_kp (kd := 10008) hKS hN6
  have hN14 := ku_kp (kd := 10008) hKS hN14
  have hN22 := ku_kp (kd := 10008) hKS hN22
  have hN30 := ku_kp (kd := 10008) hKS hN30
  have hN38 := ku_kp (kd := 10008) hKS hN38
  have hN46 := ku_kp (kd := 10008) hKS hN46
  have hN54 := ku_kp (kd := 10008) hKS hN54
  have hN62 := ku_kp (kd := 10008) hKS hN62
  have hN70 := ku_kp (kd := 10008) hKS hN70
  have hN78 := ku_kp (kd := 10008) hKS hN78
  have hKS := hKS.upw (kd := 10008) hm rfl
  have hN86 := (ku_self : ku (ku (ku (ku (ku (ku (ku (ku (ku (ku (ku K sz 10004) (sz + 1) 10012) ((sz + 1) + 1) 10012) (((sz + 1) + 1) + 1) 10012) ((((sz + 1) + 1) + 1) + 1) 10012) (((((sz + 1) + 1) + 1) + 1) + 1) 10012) ((((((sz + 1) + 1) + 1) + 1) + 1) + 1) 10006) (((((((sz + 1) + 1) + 1) + 1) + 1) + 1) + 1) 10006) ((((((((sz + 1) + 1) + 1) + 1) + 1) + 1) + 1) + 1) 10060) (((((((((sz + 1) + 1) + 1) + 1) + 1) + 1) + 1) + 1) + 1) 10006) ((((((((((sz + 1) + 1) + 1) + 1) + 1) + 1) + 1) + 1) + 1) + 1) 10008 ((((((((((sz + 1) + 1) + 1) + 1) + 1) + 1) + 1) + 1) + 1) + 1) = 10008)
  refine V_putF (ty := (.array .int)) (ci := 25) (N := 24) (C := RX9) (T := TX9) (o := o) (j := 10) (a := ((((((((((((sz + 1) + 1) + 1) + 1) + 1) + 1) + 1) + 1) + 1) + 1) : Nat) : Int)) X hnm rfl in_X9 tyX9 tyX9_ok nmX9 (by decide) hK0 (by decide) rfl rfl pfd_AI rfl rfl q386 (fv_3i rfl (by rw [gI_sI, if_pos ⟨rfl, rfl⟩])) dX9_init_88 ?_
  refine V_aload_n X dX9_init_91 0 rfl ?_
  refine V_iconst X dX9_init_92 ?_
  obtain ⟨hm, h⟩ := lim_some h
  refine V_newarrA (at' := .int) (t := 0) (N := 4) X hX.2.2.2.1 hX.hA hm (by decide) rfl q168 (by decide) dX9_init_93 ?_
  have hK0 := ku_kp (kd := 10004) hKS hK0
  have hN6 := ku_kp (kd := 10004) hKS hN6
  have hN14 := ku_kp (kd := 10004) hKS hN14
  have hN22 := ku_kp (kd := 10004) hKS hN22
  have hN30 := ku_kp (kd := 10004) hKS hN30
  have hN38 := ku_kp (kd := 10004) hKS hN38
  have hN46 := ku_kp (kd := 10004) hKS hN46
  have hN54 := ku_kp (kd := 10004) hKS hN54
  have hN62 := ku_kp (kd := 10004) hKS hN62
  have hN70 := ku_kp (kd := 10004) hKS hN70
  have hN78 := ku_kp (kd := 10004) hKS hN78
  have hN86 := ku_kp (kd := 10004) hKS hN86
  have hKS := hKS.upw (kd := 10004) hm rfl
  have hN93 := (ku_self : ku (ku (ku (ku (ku (ku (ku (ku (ku (ku (ku (ku K sz 10004) (sz + 1) 10012) ((sz + 1) + 1) 10012) (((sz + 1) + 1) + 1) 10012) ((((sz + 1) + 1) + 1) + 1) 10012) (((((sz + 1) + 1) + 1) + 1) + 1) 10012) ((((((sz + 1) + 1) + 1) + 1) + 1) + 1) 10006) (((((((sz + 1) + 1) + 1) + 1) + 1) + 1) + 1) 10006) ((((((((sz + 1) + 1) + 1) + 1) + 1) + 1) + 1) + 1) 10060) (((((((((sz + 1) + 1) + 1) + 1) + 1) + 1) + 1) + 1) + 1) 10006) ((((((((((sz + 1) + 1) + 1) + 1) + 1) + 1) + 1) + 1) + 1) + 1) 10008) (((((((((((sz + 1) + 1) + 1) + 1) + 1) + 1) + 1) + 1) + 1) + 1) + 1) 10004 (((((((((((sz + 1) + 1) + 1) + 1) + 1) + 1) + 1) + 1) + 1) + 1) + 1) = 10004)
  refine V_putF (ty := (.array .int)) (ci := 25) (N := 24) (C := RX9) (T := TX9) (o := o) (j := 11) (a := (((((((((((((sz + 1) + 1) + 1) + 1) + 1) + 1) + 1) + 1) + 1) + 1) + 1) : Nat) : Int)) X hnm rfl in_X9 tyX9 tyX9_ok nmX9 (by decide) hK0 (by decide) rfl rfl pfd_AI rfl rfl q389 (fv_3i rfl (by rw [gI_sI, if_pos ⟨rfl, rfl⟩])) dX9_init_95 ?_
  refine V_aload_n X dX9_init_98 0 rfl ?_
  refine V_iconst X dX9_init_99 ?_
  refine V_iconst X dX9_init_100 ?_
  obtain ⟨hm, h⟩ := lim_some h
  refine V_multiA (tO := 7) (tI := 0) (N := 4) (M := 3) (ty := FieldType.int) (dI := 0) X hX.2.2.2.1 hX.hA hm (by decide) (by decide) (Or.inl ⟨rfl, rfl, rfl⟩) (by decide) (by decide) (by decide) (by decide) rfl rfl (by rw [show "[" ++ (FieldType.array FieldType.int).toString = "[[I" from by decide +kernel]; exact q353) q354 q168 (fun _ _ h => h) (by decide +kernel) rfl rfl dX9_init_101 ?_
  have hK0 := kuM_kp (n := 4) (kO := 80004) (kI := 10003) hKS hK0
  have hN6 := kuM_kp (n := 4) (kO := 80004) (kI := 10003) hKS hN6
  have hN14 := kuM_kp (n := 4) (kO := 80004) (kI := 10003) hKS hN14
  have hN22 := kuM_kp (n := 4) (kO := 80004) (kI := 10003) hKS hN22
  have hN30 := kuM_kp (n := 4) (kO := 80004) (kI := 10003) hKS hN30
  have hN38 := kuM_kp (n := 4) (kO := 80004) (kI := 10003) hKS hN38
  have hN46 := kuM_kp (n := 4) (kO := 80004) (kI := 10003) hKS hN46
  have hN54 := kuM_kp (n := 4) (kO := 80004) (kI := 10003) hKS hN54
  have hN62 := kuM_kp (n := 4) (kO := 80004) (kI := 10003) hKS hN62
  have hN70 := kuM_kp (n := 4) (kO := 80004) (kI := 10003) hKS hN70
  have hN78 := kuM_kp (n := 4) (kO := 80004) (kI := 10003) hKS hN78
  have hN86 := kuM_kp (n := 4) (kO := 80004) (kI := 10003) hKS hN86
  have hN93 := kuM_kp (n := 4) (kO := 80004) (kI := 10003) hKS hN93
  have hKS := hKS.upM (n := 4) (kO := 80004) (kI := 10003) hm rfl rfl (by decide) (by decide)
  have hN101 := (kuM_z : kuM (ku (ku (ku (ku (ku (ku (ku (ku (ku (ku (ku (ku K sz 10004) (sz + 1) 10012) ((sz + 1) + 1) 10012) (((sz + 1) + 1) + 1) 10012) ((((sz + 1) + 1) + 1) + 1) 10012) (((((sz + 1) + 1) + 1) + 1) + 1) 10012) ((((((sz + 1) + 1) + 1) + 1) + 1) + 1) 10006) (((((((sz + 1) + 1) + 1) + 1) + 1) + 1) + 1) 10006) ((((((((sz + 1) + 1) + 1) + 1) + 1) + 1) + 1) + 1) 10060) (((((((((sz + 1) + 1) + 1) + 1) + 1) + 1) + 1) + 1) + 1) 10006) ((((((((((sz + 1) + 1) + 1) + 1) + 1) + 1) + 1) + 1) + 1) + 1) 10008) (((((((((((sz + 1) + 1) + 1) + 1) + 1) + 1) + 1) + 1) + 1) + 1) + 1) 10004) ((((((((((((sz + 1) + 1) + 1) + 1) + 1) + 1) + 1) + 1) + 1) + 1) + 1) + 1) 4 80004 10003 ((((((((((((sz + 1) + 1) + 1) + 1) + 1) + 1) + 1) + 1) + 1) + 1) + 1) + 1) = 80004)
  refine V_putF (ty := (.array (.array .int))) (ci := 25) (N := 24) (C := RX9) (T := TX9) (o := o) (j := 12) (a := ((((((((((((((sz + 1) + 1) + 1) + 1) + 1) + 1) + 1) + 1) + 1) + 1) + 1) + 1) : Nat) : Int)) X hnm rfl in_X9 tyX9 tyX9_ok nmX9 (by decide) hK0 (by decide) rfl rfl pfd_AAI rfl rfl q392 (fv_3i rfl (by rw [gI_sI, if_pos ⟨rfl, rfl⟩])) dX9_init_105 ?_
  refine V_aload_n X dX9_init_108 0 rfl ?_
  refine V_bipush X dX9_init_109 (by decide) ?_
  refine V_put (ty := .int) (ci := 25) (N := 24) (C := RX9) (T := TX9) (o := o) (j := 19) (a := 20) X rfl in_X9 tyX9 tyX9_ok nmX9 (by decide) hK0 (by decide) rfl pfd_I rfl rfl q414 (by rw [fv_0 rfl, gI_sI, if_pos ⟨rfl, rfl⟩]) dX9_init_111 ?_
  refine V_aload_n X dX9_init_114 0 rfl ?_
  refine V_iconst X dX9_init_115 ?_
  refine V_put (ty := .int) (ci := 25) (N := 24) (C := RX9) (T := TX9) (o := o) (j := 20) (a := 2) X rfl in_X9 tyX9 tyX9_ok nmX9 (by decide) hK0 (by decide) rfl pfd_I rfl rfl q417 (by rw [fv_0 rfl, gI_sI, if_pos ⟨rfl, rfl⟩]) dX9_init_116 ?_
  refine V_aload_n X dX9_init_119 0 rfl ?_
  refine V_bipush X dX9_init_120 (by decide) ?_
  refine V_put (ty := .int) (ci := 25) (N := 24) (C := RX9) (T := TX9) (o := o) (j := 22) (a := 30) X rfl in_X9 tyX9 tyX9_ok nmX9 (by decide) hK0 (by decide) rfl pfd_I rfl rfl q422 (by rw [fv_0 rfl, gI_sI, if_pos ⟨rfl, rfl⟩]) dX9_init_122 ?_
  refine V_aload_n X dX9_init_125 0 rfl ?_
  refine V_iconst X dX9_init_126 ?_
  refine V_put (ty := .int) (ci := 25) (N := 24) (C := RX9) (T := TX9) (o := o) (j := 23) (a := 5) X rfl in_X9 tyX9 tyX9_ok nmX9 (by decide) hK0 (by decide) rfl pfd_I rfl rfl q425 (by rw [fv_0 rfl, gI_sI, if_pos ⟨rfl, rfl⟩]) dX9_init_127 ?_
  refine V_iconst X dX9_init_130 ?_
  refine V_istore_n X dX9_init_131 (by decide) (L' := [(1, vI 0), (0, .ref (xb x + o))]) rfl ?_
  exact V_sub [1, 0] rfl (LL132 N (((kuM (ku (ku (ku (ku (ku (ku (ku (ku (ku (ku (ku (ku K sz 10004) (sz + 1) 10012) ((sz + 1) + 1) 10012) (((sz + 1) + 1) + 1) 10012) ((((sz + 1) + 1) + 1) + 1) 10012) (((((sz + 1) + 1) + 1) + 1) + 1) 10012) ((((((sz + 1) + 1) + 1) + 1) + 1) + 1) 10006) (((((((sz + 1) + 1) + 1) + 1) + 1) + 1) + 1) 10006) ((((((((sz + 1) + 1) + 1) + 1) + 1) + 1) + 1) + 1) 10060) (((((((((sz + 1) + 1) + 1) + 1) + 1) + 1) + 1) + 1) + 1) 10006) ((((((((((sz + 1) + 1) + 1) + 1) + 1) + 1) + 1) + 1) + 1) + 1) 10008) (((((((((((sz + 1) + 1) + 1) + 1) + 1) + 1) + 1) + 1) + 1) + 1) + 1) 10004) ((((((((((((sz + 1) + 1) + 1) + 1) + 1) + 1) + 1) + 1) + 1) + 1) + 1) + 1) 4 80004 10003), (((((((((((((sz + 1) + 1) + 1) + 1) + 1) + 1) + 1) + 1) + 1) + 1) + 1) + 1) + 1 + 4), (sI (sI (sI (sI (sI (newM ((((((((((((sz + 1) + 1) + 1) + 1) + 1) + 1) + 1) + 1) + 1) + 1) + 1) + 1) 4 0 (sI (newA (((((((((((sz + 1) + 1) + 1) + 1) + 1) + 1) + 1) + 1) + 1) + 1) + 1) 0 (sI (newA ((((((((((sz + 1) + 1) + 1) + 1) + 1) + 1) + 1) + 1) + 1) + 1) 0 (sI (newA (((((((((sz + 1) + 1) + 1) + 1) + 1) + 1) + 1) + 1) + 1) 0 (sI (newA ((((((((sz + 1) + 1) + 1) + 1) + 1) + 1) + 1) + 1) 0 (sI (newA (((((((sz + 1) + 1) + 1) + 1) + 1) + 1) + 1) 0 (sI (newA ((((((sz + 1) + 1) + 1) + 1) + 1) + 1) 0 (sI (newA (((((sz + 1) + 1) + 1) + 1) + 1) 0 (sI (newA ((((sz + 1) + 1) + 1) + 1) 0 (sI (newA (((sz + 1) + 1) + 1) 0 (sI (newA ((sz + 1) + 1) 0 (sI (newA (sz + 1) 0 (sI (newA sz 0 g) 2500 o ((sz : Nat) : Int))) 2501 o (((sz + 1) : Nat) : Int))) 2502 o ((((sz + 1) + 1) : Nat) : Int))) 2503 o (((((sz + 1) + 1) + 1) : Nat) : Int))) 2504 o ((((((sz + 1) + 1) + 1) + 1) : Nat) : Int))) 2505 o (((((((sz + 1) + 1) + 1) + 1) + 1) : Nat) : Int))) 2506 o ((((((((sz + 1) + 1) + 1) + 1) + 1) + 1) : Nat) : Int))) 2507 o (((((((((sz + 1) + 1) + 1) + 1) + 1) + 1) + 1) : Nat) : Int))) 2508 o ((((((((((sz + 1) + 1) + 1) + 1) + 1) + 1) + 1) + 1) : Nat) : Int))) 2509 o (((((((((((sz + 1) + 1) + 1) + 1) + 1) + 1) + 1) + 1) + 1) : Nat) : Int))) 2510 o ((((((((((((sz + 1) + 1) + 1) + 1) + 1) + 1) + 1) + 1) + 1) + 1) : Nat) : Int))) 2511 o (((((((((((((sz + 1) + 1) + 1) + 1) + 1) + 1) + 1) + 1) + 1) + 1) + 1) : Nat) : Int))) 2512 o ((((((((((((((sz + 1) + 1) + 1) + 1) + 1) + 1) + 1) + 1) + 1) + 1) + 1) + 1) : Nat) : Int)) 2519 o 20) 2520 o 2) 2522 o 30) 2523 o 5)), 0) _ h rfl hKS)
set_option maxHeartbeats 4000000 in
theorem con_x_init (wf : Bool) (N : Nat) (o : Nat) (K : Nat → Nat) (sz : Nat) (hKS : KS wf K sz K sz) (hK0 : K o = 18) (g : GS) (r : S3) (h : x_init N o K sz g = some r) : ConA wf sz yX1_init cX1_init 3 none 9 223 K (fun b => [.ref (b + o)]) g (fun r => ((fun _ => none), r)) (.inr r) := by
  refine ConA.of RX1 (by decide) rfl (fun b => Nat.le_of_ble_eq_true rfl) (fun x hX hnm => ?_)
  have X := hX.1
  have h0K := hKS.2.2.1
  have hK0e := hK0
  have LL215 : ∀  (n : Nat) (s : (S3 × Int)) (e : S3), loopN (fun s => x_init_b215 N o s.1 s.2) n s = some e → (e = r) → KS wf K sz s.1.1 s.1.2.1 → V x 3 s.1.1 (s.1.2.1 - sz) (600 * (s.1.2.1 - sz)) s.1.2.1 s.1.2.2 215 [(0, .ref (xb x + o)), (1, vI s.2)] [] := by
    intro  n s e
    refine loop_walk (P := fun s => KS wf K sz s.1.1 s.1.2.1 → V x 3 s.1.1 (s.1.2.1 - sz) (600 * (s.1.2.1 - sz)) s.1.2.1 s.1.2.2 215 [(0, .ref (xb x + o)), (1, vI s.2)] []) (E := fun e => e = r) ?_ n s e
    clear e s n
    rintro ⟨g, l1⟩ qv215 h hc215 he215
    intro hKS
    have hK0 := hKS.keep h0K hK0e
    replace h : x_init_b215 N o g l1 = some qv215 := h
    unfold x_init_b215 at h
    show V x 3 g.1 (g.2.1 - sz) (600 * (g.2.1 - sz)) g.2.1 g.2.2 215 [(0, .ref (xb x + o)), (1, vI l1)] []
    refine V_iload_n X dX1_init_215 1 rfl ?_
    refine V_iconst X dX1_init_216 ?_
    refine V_icmp_ge (tgt := 233) X dX1_init_217 (by decide) h (fun h => ?_) (fun h => ?_)
    · obtain ⟨e1, h, e1q⟩ := outR_some h
      replace h := h.trans (congrArg some (he215 _ e1q))
      have hr := Option.some.inj h
      subst hr
      exact V_endA_v hX rfl hKS dX1_init_233
    · refine V_aload_n X dX1_init_220 0 rfl ?_
      obtain ⟨i221, hvi221, hki221, h⟩ := rdR_some h
      refine V_get (ci := 17) (N := 18) (C := RX1) (T := TX1) (o := o) (j := 7) X rfl in_X1 (by decide) hK0 (by decide) q484 (fv_3i rfl hvi221) dX1_init_221 ?_
      refine V_iload_n X dX1_init_224 1 rfl ?_
      refine V_iconst X dX1_init_225 ?_
      refine V_iast X (o := i221) (n := 3) hki221 (by decide) dX1_init_226 h (fun g226 h => ?_)
      refine V_iinc X dX1_init_227 1 rfl (by decide) (L' := [(1, vI (l1 + 1)), (0, .ref (xb x + o))]) rfl ?_
      refine V_goto (tgt := 215) X dX1_init_230 (by decide) ?_
      exact V_sub [1, 0] rfl (hc215 _ (Option.some.inj h).symm hKS)
  have LL173 : ∀  (n : Nat) (s : (S3 × Int)) (e : (S3)), loopN (fun s => x_init_b173 N o s.1 s.2) n s = some e → (KS wf K sz e.1 e.2.1 → V x 3 e.1 (e.2.1 - sz) (600 * (e.2.1 - sz)) e.2.1 e.2.2 213 [(0, .ref (xb x + o))] []) → KS wf K sz s.1.1 s.1.2.1 → V x 3 s.1.1 (s.1.2.1 - sz) (600 * (s.1.2.1 - sz)) s.1.2.1 s.1.2.2 173 [(0, .ref (xb x + o)), (1, vI s.2)] [] := by
    intro  n s e
    refine loop_walk (P := fun s => KS wf K sz s.1.1 s.1.2.1 → V x 3 s.1.1 (s.1.2.1 - sz) (600 * (s.1.2.1 - sz)) s.1.2.1 s.1.2.2 173 [(0, .ref (xb x + o)), (1, vI s.2)] []) (E := fun e => KS wf K sz e.1 e.2.1 → V x 3 e.1 (e.2.1 - sz) (600 * (e.2.1 - sz)) e.2.1 e.2.2 213 [(0, .ref (xb x + o))] []) ?_ n s e
    clear e s n
    rintro ⟨g, l1⟩ qv173 h hc173 he173
    intro hKS
    have hK0 := hKS.keep h0K hK0e
    replace h : x_init_b173 N o g l1 = some qv173 := h
    have LL180 : ∀ (l1 : Int) (n : Nat) (s : (S3 × Int)) (e : (S3)), loopN (fun s => x_init_b180 N o l1 s.1 s.2) n s = some e → (KS wf K sz e.1 e.2.1 → V x 3 e.1 (e.2.1 - sz) (600 * (e.2.1 - sz)) e.2.1 e.2.2 207 [(0, .ref (xb x + o)), (1, vI l1)] []) → KS wf K sz s.1.1 s.1.2.1 → V x 3 s.1.1 (s.1.2.1 - sz) (600 * (s.1.2.1 - sz)) s.1.2.1 s.1.2.2 180 [(0, .ref (xb x + o)), (1, vI l1), (2, vI s.2)] [] := by
      intro l1 n s e
      refine loop_walk (P := fun s => KS wf K sz s.1.1 s.1.2.1 → V x 3 s.1.1 (s.1.2.1 - sz) (600 * (s.1.2.1 - sz)) s.1.2.1 s.1.2.2 180 [(0, .ref (xb x + o)), (1, vI l1), (2, vI s.2)] []) (E := fun e => KS wf K sz e.1 e.2.1 → V x 3 e.1 (e.2.1 - sz) (600 * (e.2.1 - sz)) e.2.1 e.2.2 207 [(0, .ref (xb x + o)), (1, vI l1)] []) ?_ n s e
      clear e s n
      rintro ⟨g, l2⟩ qv180 h hc180 he180
      intro hKS
      have hK0 := hKS.keep h0K hK0e
      replace h : x_init_b180 N o l1 g l2 = some qv180 := h
      unfold x_init_b180 at h
      show V x 3 g.1 (g.2.1 - sz) (600 * (g.2.1 - sz)) g.2.1 g.2.2 180 [(0, .ref (xb x + o)), (1, vI l1), (2, vI l2)] []
      refine V_iload_n X dX1_init_180 2 rfl ?_
      refine V_bipush X dX1_init_181 (by decide) ?_
      refine V_icmp_gt (tgt := 207) X dX1_init_183 (by decide) h (fun h => ?_) (fun h => ?_)
      · exact V_sub [0, 1] rfl (he180 _ (Option.some.inj h).symm hKS)
      · refine V_aload_n X dX1_init_186 0 rfl ?_
        obtain ⟨i187, hvi187, hki187, h⟩ := rdR_some h
        refine V_get (ci := 17) (N := 18) (C := RX1) (T := TX1) (o := o) (j := 4) X rfl in_X1 (by decide) hK0 (by decide) q481 (fv_3i rfl hvi187) dX1_init_187 ?_
        refine V_iload_n X dX1_init_190 1 rfl ?_
        obtain ⟨i191, hni191, hvi191, hki191, h⟩ := rdQ_some h
        refine V_aald (o := i187) (t := 5) (n := 3) X (by decide) (by decide) hki187 (by decide) hni191 hvi191 dX1_init_191 ?_
        refine V_iload_n X dX1_init_192 2 rfl ?_
        obtain ⟨hm, h⟩ := lim_some h
        have hz193 := hKS.1
        refine V_newA (ci := 19) (N := 3) (C := RX3) (T := TX3) X hX.2.2.2.1 hX.hA hm rfl in_X3 tyX3 tyX3_ok (by decide) (by decide) q146 q147 q98 df_19 dX1_init_193 ?_
        have hK0 := ku_kp (kd := 20) hKS hK0
        have hki187 := ku_kp (kd := 20) hKS hki187
        have hki191 := ku_kp (kd := 20) hKS hki191
        have hKS := hKS.upw (kd := 20) hm rfl
        have hN193 := (ku_self : ku g.1 g.2.1 20 g.2.1 = 20)
        refine V_dup X dX1_init_196 rfl ?_
        obtain ⟨c197, hc197, h⟩ := bind_some_eq h
        refine V_callINA (As := []) (rest := [.ref (xb x + g.2.1), vI l2, .ref (xb x + i191)]) (s1 := [.ref (xb x + g.2.1), vI l2, .ref (xb x + i191)]) (o := g.2.1) X hX.2.2.2.1 hX.hA hKS.2.1 (con_xPlan_init wf g.2.1 (ku g.1 g.2.1 20) (g.2.1 + 1) hKS.here hN193 (newI 19 g.2.1 g.2.2) c197 hc197) q148 q149 q98 q150 hdI_X3 ⟨Nat.le_of_ble_eq_true rfl, Nat.le_of_ble_eq_true rfl⟩ rfl rfl (Nat.le_of_ble_eq_true rfl) dX1_init_197 rfl rfl (fun hKSc => ?_)
        have hK0 := hKS.kp hKSc hK0
        have hki187 := hKS.kp hKSc hki187
        have hki191 := hKS.kp hKSc hki191
        have hN193 := hKS.kp hKSc hN193
        have hKS := hKS.tr hKSc
        obtain ⟨hdn, h⟩ := dnP_some h
        refine V_done (ci := 2) (N := 3) (o := g.2.1) X (C := RX3) (T := TX3) rfl rfl (by decide) (by decide) hN193 hdn ?_
        have hK0 := ku_kd (ci := 2) hN193 hK0
        have hki187 := ku_kd (ci := 2) hN193 hki187
        have hki191 := ku_kd (ci := 2) hN193 hki191
        have hKS := hKS.done (ci := 2) (by omega) (by decide) hN193 hdn
        have hN193d := (ku_self : ku c197.1 g.2.1 3 g.2.1 = 3)
        refine V_aast (t := 4) (ci := 2) (v := g.2.1) (N := 3) (C := RX3) (T := TX3) (n := 21) (o := i191) X (by decide) (by decide) rfl rfl (by decide) hN193d hki191 (by decide) dX1_init_200 h (fun g200 h => ?_)
        refine V_iinc X dX1_init_201 2 rfl (by decide) (L' := [(2, vI (l2 + 1)), (0, .ref (xb x + o)), (1, vI l1)]) rfl ?_
        refine V_goto (tgt := 180) X dX1_init_204 (by decide) ?_
        exact V_sub [1, 2, 0] rfl (hc180 _ (Option.some.inj h).symm hKS)
    unfold x_init_b173 at h
    show V x 3 g.1 (g.2.1 - sz) (600 * (g.2.1 - sz)) g.2.1 g.2.2 173 [(0, .ref (xb x + o)), (1, vI l1)] []
    refine V_iload_n X dX1_init_173 1 rfl ?_
    refine V_iconst X dX1_init_174 ?_
    refine V_icmp_ge (tgt := 213) X dX1_init_175 (by decide) h (fun h => ?_) (fun h => ?_)
    · exact V_sub [0] rfl (he173 _ (Option.some.inj h).symm hKS)
    · refine V_iconst X dX1_init_178 ?_
      refine V_istore_n X dX1_init_179 (by decide) (L' := [(2, vI 0), (0, .ref (xb x + o)), (1, vI l1)]) rfl ?_
      obtain ⟨t2, t2q, h⟩ := bind_some_eq h
      refine V_sub [1, 2, 0] rfl (LL180 l1 N (g, 0) _ t2q (fun hKS => ?_) hKS)
      have hK0 := hKS.keep h0K hK0e
      refine V_iinc X dX1_init_207 1 rfl (by decide) (L' := [(1, vI (l1 + 1)), (0, .ref (xb x + o))]) rfl ?_
      refine V_goto (tgt := 173) X dX1_init_210 (by decide) ?_
      exact V_sub [1, 0] rfl (hc173 _ (Option.some.inj h).symm hKS)
  have LL146 : ∀  (n : Nat) (s : (S3 × Int)) (e : (S3)), loopN (fun s => x_init_b146 N o s.1 s.2) n s = some e → (KS wf K sz e.1 e.2.1 → V x 3 e.1 (e.2.1 - sz) (600 * (e.2.1 - sz)) e.2.1 e.2.2 171 [(0, .ref (xb x + o))] []) → KS wf K sz s.1.1 s.1.2.1 → V x 3 s.1.1 (s.1.2.1 - sz) (600 * (s.1.2.1 - sz)) s.1.2.1 s.1.2.2 146 [(0, .ref (xb x + o)), (1, vI s.2)] [] := by
    intro  n s e
    refine loop_walk (P := fun s => KS wf K sz s.1.1 s.1.2.1 → V x 3 s.1.1 (s.1.2.1 - sz) (600 * (s.1.2.1 - sz)) s.1.2.1 s.1.2.2 146 [(0, .ref (xb x + o)), (1, vI s.2)] []) (E := fun e => KS wf K sz e.1 e.2.1 → V x 3 e.1 (e.2.1 - sz) (600 * (e.2.1 - sz)) e.2.1 e.2.2 171 [(0, .ref (xb x + o))] []) ?_ n s e
    clear e s n
    rintro ⟨g, l1⟩ qv146 h hc146 he146
    intro hKS
    have hK0 := hKS.keep h0K hK0e
    replace h : x_init_b146 N o g l1 = some qv146 := h
    unfold x_init_b146 at h
    show V x 3 g.1 (g.2.1 - sz) (600 * (g.2.1 - sz)) g.2.1 g.2.2 146 [(0, .ref (xb x + o)), (1, vI l1)] []
    refine V_iload_n X dX1_init_146 1 rfl ?_
    refine V_bipush X dX1_init_147 (by decide) ?_
    refine V_icmp_ge (tgt := 171) X dX1_init_149 (by decide) h (fun h => ?_) (fun h => ?_)
    · exact V_sub [0] rfl (he146 _ (Option.some.inj h).symm hKS)
    · refine V_aload_n X dX1_init_152 0 rfl ?_
      obtain ⟨i153, hvi153, hki153, h⟩ := rdR_some h
      refine V_get (ci := 17) (N := 18) (C := RX1) (T := TX1) (o := o) (j := 3) X rfl in_X1 (by decide) hK0 (by decide) q480 (fv_3i rfl hvi153) dX1_init_153 ?_
      refine V_iload_n X dX1_init_156 1 rfl ?_
      obtain ⟨hm, h⟩ := lim_some h
      have hz157 := hKS.1
      refine V_newA (ci := 19) (N := 3) (C := RX3) (T := TX3) X hX.2.2.2.1 hX.hA hm rfl in_X3 tyX3 tyX3_ok (by decide) (by decide) q146 q147 q98 df_19 dX1_init_157 ?_
      have hK0 := ku_kp (kd := 20) hKS hK0
      have hki153 := ku_kp (kd := 20) hKS hki153
      have hKS := hKS.upw (kd := 20) hm rfl
      have hN157 := (ku_self : ku g.1 g.2.1 20 g.2.1 = 20)
      refine V_dup X dX1_init_160 rfl ?_
      obtain ⟨c161, hc161, h⟩ := bind_some_eq h
      refine V_callINA (As := []) (rest := [.ref (xb x + g.2.1), vI l1, .ref (xb x + i153)]) (s1 := [.ref (xb x + g.2.1), vI l1, .ref (xb x + i153)]) (o := g.2.1) X hX.2.2.2.1 hX.hA hKS.2.1 (con_xPlan_init wf g.2.1 (ku g.1 g.2.1 20) (g.2.1 + 1) hKS.here hN157 (newI 19 g.2.1 g.2.2) c161 hc161) q148 q149 q98 q150 hdI_X3 ⟨Nat.le_of_ble_eq_true rfl, Nat.le_of_ble_eq_true rfl⟩ rfl rfl (Nat.le_of_ble_eq_true rfl) dX1_init_161 rfl rfl (fun hKSc => ?_)
      have hK0 := hKS.kp hKSc hK0
      have hki153 := hKS.kp hKSc hki153
      have hN157 := hKS.kp hKSc hN157
      have hKS := hKS.tr hKSc
      obtain ⟨hdn, h⟩ := dnP_some h
      refine V_done (ci := 2) (N := 3) (o := g.2.1) X (C := RX3) (T := TX3) rfl rfl (by decide) (by decide) hN157 hdn ?_
      have hK0 := ku_kd (ci := 2) hN157 hK0
      have hki153 := ku_kd (ci := 2) hN157 hki153
      have hKS := hKS.done (ci := 2) (by omega) (by decide) hN157 hdn
      have hN157d := (ku_self : ku c161.1 g.2.1 3 g.2.1 = 3)
      refine V_aast (t := 4) (ci := 2) (v := g.2.1) (N := 3) (C := RX3) (T := TX3) (n := 20) (o := i153) X (by decide) (by decide) rfl rfl (by decide) hN157d hki153 (by decide) dX1_init_164 h (fun g164 h => ?_)
      refine V_iinc X dX1_init_165 1 rfl (by decide) (L' := [(1, vI (l1 + 1)), (0, .ref (xb x + o))]) rfl ?_
      refine V_goto (tgt := 146) X dX1_init_168 (by decide) ?_
      exact V_sub [1, 0] rfl (hc146 _ (Option.some.inj h).symm hKS)
  unfold x_init at h
  show V x 3 K (sz - sz) (600 * (sz - sz)) sz g 0 [(0, .ref (xb x + o))] []
  refine V_aload_n X dX1_init_0 0 rfl ?_
  refine V_objI X q131 ⟨Nat.le_of_ble_eq_true rfl, Nat.le_of_ble_eq_true rfl⟩ dX1_init_1 ?_
  refine V_aload_n X dX1_init_4 0 rfl ?_
  refine V_sipush X dX1_init_5 (by decide) ?_
  obtain ⟨hm, h⟩ := lim_some h
  refine V_newarrA (at' := .byte) (t := 1) (N := 600) X hX.2.2.2.1 hX.hA hm (by decide) rfl q145 (by decide) dX1_init_8 ?_
  have hK0 := ku_kp (kd := 20600) hKS hK0
  have hKS := hKS.upw (kd := 20600) hm rfl
  have hN8 := (ku_self : ku K sz 20600 sz = 20600)
  refine V_putF (ty := (.array .byte)) (ci := 17) (N := 18) (C := RX1) (T := TX1) (o := o) (j := 0) (a := ((sz : Nat) : Int)) X hnm rfl in_X1 tyX1 tyX1_ok nmX1 (by decide) hK0 (by decide) rfl rfl pfd_AB rfl rfl q477 (fv_3i rfl (by rw [gI_sI, if_pos ⟨rfl, rfl⟩])) dX1_init_10 ?_
  refine V_aload_n X dX1_init_13 0 rfl ?_
  obtain ⟨hm, h⟩ := lim_some h
  have hz14 := hKS.1
  refine V_newA (ci := 1) (N := 1) (C := RX2) (T := TX2) X hX.2.2.2.1 hX.hA hm rfl in_X2 tyX2 tyX2_ok (by decide) (by decide) q134 q135 q97 df_1 dX1_init_14 ?_
  have hK0 := ku_kp (kd := 2) hKS hK0
  have hN8 := ku_kp (kd := 2) hKS hN8
  have hKS := hKS.upw (kd := 2) hm rfl
  have hN14 := (ku_self : ku (ku K sz 20600) (sz + 1) 2 (sz + 1) = 2)
  refine V_dup X dX1_init_17 rfl ?_
  obtain ⟨c18, hc18, h⟩ := bind_some_eq h
  refine V_callINA (As := []) (rest := [.ref (xb x + (sz + 1)), .ref (xb x + o)]) (s1 := [.ref (xb x + (sz + 1)), .ref (xb x + o)]) (o := (sz + 1)) X hX.2.2.2.1 hX.hA hKS.2.1 (con_xLaw_init wf (sz + 1) (ku (ku K sz 20600) (sz + 1) 2) ((sz + 1) + 1) hKS.here hN14 (newI 1 (sz + 1) (sI (newA sz 0 g) 1700 o ((sz : Nat) : Int))) c18 hc18) q136 q137 q97 q138 hdI_X2 ⟨Nat.le_of_ble_eq_true rfl, Nat.le_of_ble_eq_true rfl⟩ rfl rfl (Nat.le_of_ble_eq_true rfl) dX1_init_18 rfl rfl (fun hKSc => ?_)
  have hK0 := hKS.kp hKSc hK0
  have hN8 := hKS.kp hKSc hN8
  have hN14 := hKS.kp hKSc hN14
  have hKS := hKS.tr hKSc
  refine V_putF (ty := (.object "RainWheel$Law")) (ci := 17) (N := 18) (C := RX1) (T := TX1) (o := o) (j := 1) (a := (((sz + 1) : Nat) : Int)) X hnm rfl in_X1 tyX1 tyX1_ok nmX1 (by decide) hK0 (by decide) rfl rfl pfd_LLaw rfl rfl q478 (fv_3i rfl (by rw [gI_sI, if_pos ⟨rfl, rfl⟩])) dX1_init_21 ?_
  refine V_aload_n X dX1_init_24 0 rfl ?_
  obtain ⟨hm, h⟩ := lim_some h
  have hz25 := hKS.1
  refine V_newA (ci := 19) (N := 3) (C := RX3) (T := TX3) X hX.2.2.2.1 hX.hA hm rfl in_X3 tyX3 tyX3_ok (by decide) (by decide) q146 q147 q98 df_19 dX1_init_25 ?_
  have hK0 := ku_kp (kd := 20) hKS hK0
  have hN8 := ku_kp (kd := 20) hKS hN8
  have hN14 := ku_kp (kd := 20) hKS hN14
  have hKS := hKS.upw (kd := 20) hm rfl
  have hN25 := (ku_self : ku c18.1 c18.2.1 20 c18.2.1 = 20)
  refine V_dup X dX1_init_28 rfl ?_
  obtain ⟨c29, hc29, h⟩ := bind_some_eq h
  refine V_callINA (As := []) (rest := [.ref (xb x + c18.2.1), .ref (xb x + o)]) (s1 := [.ref (xb x + c18.2.1), .ref (xb x + o)]) (o := c18.2.1) X hX.2.2.2.1 hX.hA hKS.2.1 (con_xPlan_init wf c18.2.1 (ku c18.1 c18.2.1 20) (c18.2.1 + 1) hKS.here hN25 (newI 19 c18.2.1 (sI c18.2.2 1701 o (((sz + 1) : Nat) : Int))) c29 hc29) q148 q149 q98 q150 hdI_X3 ⟨Nat.le_of_ble_eq_true rfl, Nat.le_of_ble_eq_true rfl⟩ rfl rfl (Nat.le_of_ble_eq_true rfl) dX1_init_29 rfl rfl (fun hKSc => ?_)
  have hK0 := hKS.kp hKSc hK0
  have hN8 := hKS.kp hKSc hN8
  have hN14 := hKS.kp hKSc hN14
  have hN25 := hKS.kp hKSc hN25
  have hKS := hKS.tr hKSc
  obtain ⟨hdn, h⟩ := dnP_some h
  refine V_done (ci := 2) (N := 3) (o := c18.2.1) X (C := RX3) (T := TX3) rfl rfl (by decide) (by decide) hN25 hdn ?_
  have hK0 := ku_kd (ci := 2) hN25 hK0
  have hN8 := ku_kd (ci := 2) hN25 hN8
  have hN14 := ku_kd (ci := 2) hN25 hN14
  have hKS := hKS.done (ci := 2) (by omega) (by decide) hN25 hdn
  have hN25d := (ku_self : ku c29.1 c18.2.1 3 c18.2.1 = 3)
  refine V_putF (ty := (.object "RainWheel$Plan")) (ci := 17) (N := 18) (C := RX1) (T := TX1) (o := o) (j := 2) (a := ((c18.2.1 : Nat) : Int)) X hnm rfl in_X1 tyX1 tyX1_ok nmX1 (by decide) hK0 (by decide) rfl rfl pfd_LPlan rfl rfl q479 (fv_3i rfl (by rw [gI_sI, if_pos ⟨rfl, rfl⟩])) dX1_init_32 ?_
  refine V_aload_n X dX1_init_35 0 rfl ?_
  refine V_bipush X dX1_init_36 (by decide) ?_
  obtain ⟨hm, h⟩ := lim_some h
  refine V_anewarrA (t := 4) (N := 20) (C := "RainWheel$Plan") X hX.2.2.2.1 hX.hA hm (by decide) (by decide) rfl q146 q169 (by decide) dX1_init_38 ?_
  have hK0 := ku_kp (kd := 50020) hKS hK0
  have hN8 := ku_kp (kd := 50020) hKS hN8
  have hN14 := ku_kp (kd := 50020) hKS hN14
  have hN25d := ku_kp (kd := 50020) hKS hN25d
  have hKS := hKS.upw (kd := 50020) hm rfl
  have hN38 := (ku_self : ku (ku c29.1 c18.2.1 3) c29.2.1 50020 c29.2.1 = 50020)
  refine V_putF (ty := (.array (.object "RainWheel$Plan"))) (ci := 17) (N := 18) (C := RX1) (T := TX1) (o := o) (j := 3) (a := ((c29.2.1 : Nat) : Int)) X hnm rfl in_X1 tyX1 tyX1_ok nmX1 (by decide) hK0 (by decide) rfl rfl pfd_ALPlan rfl rfl q480 (fv_3i rfl (by rw [gI_sI, if_pos ⟨rfl, rfl⟩])) dX1_init_41 ?_
  refine V_aload_n X dX1_init_44 0 rfl ?_
  refine V_iconst X dX1_init_45 ?_
  refine V_bipush X dX1_init_46 (by decide) ?_
  obtain ⟨hm, h⟩ := lim_some h
  refine V_multiA (tO := 5) (tI := 4) (N := 3) (M := 21) (ty := (FieldType.object "RainWheel$Plan")) (dI := (-1)) X hX.2.2.2.1 hX.hA hm (by decide) (by decide) (Or.inr ⟨by decide, by decide, rfl, rfl⟩) (by decide) (by decide) (by decide) (by decide) rfl rfl (by rw [show "[" ++ (FieldType.array (FieldType.object "RainWheel$Plan")).toString = "[[LRainWheel$Plan;" from by decide +kernel]; exact q170) q171 q172 (fun _ _ h => by obtain ⟨_, _, _, _, _, h⟩ := h; exact h) (by decide +kernel) rfl rfl dX1_init_48 ?_
  have hK0 := kuM_kp (n := 3) (kO := 60003) (kI := 50021) hKS hK0
  have hN8 := kuM_kp (n := 3) (kO := 60003) (kI := 50021) hKS hN8
  have hN14 := kuM_kp (n := 3) (kO := 60003) (kI := 50021) hKS hN14
  have hN25d := kuM_kp (n := 3) (kO := 60003) (kI := 50021) hKS hN25d
  have hN38 := kuM_kp (n := 3) (kO := 60003) (kI := 50021) hKS hN38
  have hKS := hKS.upM (n := 3) (kO := 60003) (kI := 50021) hm rfl rfl (by decide) (by decide)
  have hN48 := (kuM_z : kuM (ku (ku c29.1 c18.2.1 3) c29.2.1 50020) (c29.2.1 + 1) 3 60003 50021 (c29.2.1 + 1) = 60003)
  refine V_putF (ty := (.array (.array (.object "RainWheel$Plan")))) (ci := 17) (N := 18) (C := RX1) (T := TX1) (o := o) (j := 4) (a := (((c29.2.1 + 1) : Nat) : Int)) X hnm rfl in_X1 tyX1 tyX1_ok nmX1 (by decide) hK0 (by decide) rfl rfl pfd_AALPlan rfl rfl q481 (fv_3i rfl (by rw [gI_sI, if_pos ⟨rfl, rfl⟩])) dX1_init_52 ?_
  refine V_aload_n X dX1_init_55 0 rfl ?_
  refine V_iconst X dX1_init_56 ?_
  obtain ⟨hm, h⟩ := lim_some h
  refine V_newarrA (at' := .int) (t := 0) (N := 3) X hX.2.2.2.1 hX.hA hm (by decide) rfl q168 (by decide) dX1_init_57 ?_
  have hK0 := ku_kp (kd := 10003) hKS hK0
  have hN8 := ku_kp (kd := 10003) hKS hN8
  have hN14 := ku_kp (kd := 10003) hKS hN14
  have hN25d := ku_kp (kd := 10003) hKS hN25d
  have hN38 := ku_kp (kd := 10003) hKS hN38
  have hN48 := ku_kp (kd := 10003) hKS hN48
  have hKS := hKS.upw (kd := 10003) hm rfl
  have hN57 := (ku_self : ku (kuM (ku (ku c29.1 c18.2.1 3) c29.2.1 50020) (c29.2.1 + 1) 3 60003 50021) ((c29.2.1 + 1) + 1 + 3) 10003 ((c29.2.1 + 1) + 1 + 3) = 10003)
  refine V_putF (ty := (.array .int)) (ci := 17) (N := 18) (C := RX1) (T := TX1) (o := o) (j := 5) (a := ((((c29.2.1 + 1) + 1 + 3) : Nat) : Int)) X hnm rfl in_X1 tyX1 tyX1_ok nmX1 (by decide) hK0 (by decide) rfl rfl pfd_AI rfl rfl q482 (fv_3i rfl (by rw [gI_sI, if_pos ⟨rfl, rfl⟩])) dX1_init_59 ?_
  refine V_aload_n X dX1_init_62 0 rfl ?_
  refine V_iconst X dX1_init_63 ?_
  obtain ⟨hm, h⟩ := lim_some h
  refine V_newarrA (at' := .int) (t := 0) (N := 3) X hX.2.2.2.1 hX.hA hm (by decide) rfl q168 (by decide) dX1_init_64 ?_
  have hK0 := ku_kp (kd := 10003) hKS hK0
  have hN8 := ku_kp (kd := 10003) hKS hN8
  have hN14 := ku_kp (kd := 10003) hKS hN14
  have hN25d := ku_kp (kd := 10003) hKS hN25d
  have hN38 := ku_kp (kd := 10003) hKS hN38
  have hN48 := ku_kp (kd := 10003) hKS hN48
  have hN57 := ku_kp (kd := 10003) hKS hN57
  have hKS := hKS.upw (kd := 10003) hm rfl
  have hN64 := (ku_self : ku (ku (kuM (ku (ku c29.1 c18.2.1 3) c29.2.1 50020) (c29.2.1 + 1) 3 60003 50021) ((c29.2.1 + 1) + 1 + 3) 10003) (((c29.2.1 + 1) + 1 + 3) + 1) 10003 (((c29.2.1 + 1) + 1 + 3) + 1) = 10003)
  refine V_putF (ty := (.array .int)) (ci := 17) (N := 18) (C := RX1) (T := TX1) (o := o) (j := 6) (a := (((((c29.2.1 + 1) + 1 + 3) + 1) : Nat) : Int)) X hnm rfl in_X1 tyX1 tyX1_ok nmX1 (by decide) hK0 (by decide) rfl rfl pfd_AI rfl rfl q483 (fv_3i rfl (by rw [gI_sI, if_pos ⟨rfl, rfl⟩])) dX1_init_66 ?_
  refine V_aload_n X dX1_init_69 0 rfl ?_
  refine V_iconst X dX1_init_70 ?_
  obtain ⟨hm, h⟩ := lim_some h
  refine V_newarrA (at' := .int) (t := 0) (N := 3) X hX.2.2.2.1 hX.hA hm (by decide) rfl q168 (by decide) dX1_init_71 ?_
  have hK0 := ku_kp (kd := 10003) hKS hK0
  have hN8 := ku_kp (kd := 10003) hKS hN8
  have hN14 := ku_kp (kd := 10003) hKS hN14
  have hN25d := ku_kp (kd := 10003) hKS hN25d
  have hN38 := ku_kp (kd := 10003) hKS hN38
  have hN48 := ku_kp (kd := 10003) hKS hN48
  have hN57 := ku_kp (kd := 10003) hKS hN57
  have hN64 := ku_kp (kd := 10003) hKS hN64
  have hKS := hKS.upw (kd := 10003) hm rfl
  have hN71 := (ku_self : ku (ku (ku (kuM (ku (ku c29.1 c18.2.1 3) c29.2.1 50020) (c29.2.1 + 1) 3 60003 50021) ((c29.2.1 + 1) + 1 + 3) 10003) (((c29.2.1 + 1) + 1 + 3) + 1) 10003) ((((c29.2.1 + 1) + 1 + 3) + 1) + 1) 10003 ((((c29.2.1 + 1) + 1 + 3) + 1) + 1) = 10003)
  refine V_putF (ty := (.array .int)) (ci := 17) (N := 18) (C := RX1) (T := TX1) (o := o) (j := 7) (a := ((((((c29.2.1 + 1) + 1 + 3) + 1) + 1) : Nat) : Int)) X hnm rfl in_X1 tyX1 tyX1_ok nmX1 (by decide) hK0 (by decide) rfl rfl pfd_AI rfl rfl q484 (fv_3i rfl (by rw [gI_sI, if_pos ⟨rfl, rfl⟩])) dX1_init_73 ?_
  refine V_aload_n X dX1_init_76 0 rfl ?_
  obtain ⟨hm, h⟩ := lim_some h
  have hz77 := hKS.1
  refine V_newA (ci := 20) (N := 15) (C := RX4) (T := TX4) X hX.2.2.2.1 hX.hA hm rfl in_X4 tyX4 tyX4_ok (by decide) (by decide) q173 q174 q99 df_20 dX1_init_77 ?_
  have hK0 := ku_kp (kd := 21) hKS hK0
  have hN8 := ku_kp (kd := 21) hKS hN8
  have hN14 := ku_kp (kd := 21) hKS hN14
  have hN25d := ku_kp (kd := 21) hKS hN25d
  have hN38 := ku_kp (kd := 21) hKS hN38
  have hN48 := ku_kp (kd := 21) hKS hN48
  have hN57 := ku_kp (kd := 21) hKS hN57
  have hN64 := ku_kp (kd := 21) hKS hN64
  have hN71 := ku_kp (kd := 21) hKS hN71
  have hKS := hKS.upw (kd := 21) hm rfl
  have hN77 := (ku_self : ku (ku (ku (ku (kuM (ku (ku c29.1 c18.2.1 3) c29.2.1 50020) (c29.2.1 + 1) 3 60003 50021) ((c29.2.1 + 1) + 1 + 3) 10003) (((c29.2.1 + 1) + 1 + 3) + 1) 10003) ((((c29.2.1 + 1) + 1 + 3) + 1) + 1) 10003) (((((c29.2.1 + 1) + 1 + 3) + 1) + 1) + 1) 21 (((((c29.2.1 + 1) + 1 + 3) + 1) + 1) + 1) = 21)
  refine V_dup X dX1_init_80 rfl ?_
  refine V_aload_n X dX1_init_81 0 rfl ?_
  obtain ⟨i82, hvi82, hki82, h⟩ := rdR_some h
  refine V_get (ci := 17) (N := 18) (C := RX1) (T := TX1) (o := o) (j := 1) X rfl in_X1 (by decide) hK0 (by decide) q478 (fv_3i rfl hvi82) dX1_init_82 ?_
  obtain ⟨c85, hc85, h⟩ := bind_some_eq h
  refine V_callIA (As := [.ref (xb x + i82)]) (rest := [.ref (xb x + (((((c29.2.1 + 1) + 1 + 3) + 1) + 1) + 1)), .ref (xb x + o)]) (s1 := [.ref (xb x + (((((c29.2.1 + 1) + 1 + 3) + 1) + 1) + 1)), .ref (xb x + o)]) (o := (((((c29.2.1 + 1) + 1 + 3) + 1) + 1) + 1)) X hX.2.2.2.1 hX.hA hKS.2.1 (con_xWatch_init wf (((((c29.2.1 + 1) + 1 + 3) + 1) + 1) + 1) i82 (ku (ku (ku (ku (kuM (ku (ku c29.1 c18.2.1 3) c29.2.1 50020) (c29.2.1 + 1) 3 60003 50021) ((c29.2.1 + 1) + 1 + 3) 10003) (((c29.2.1 + 1) + 1 + 3) + 1) 10003) ((((c29.2.1 + 1) + 1 + 3) + 1) + 1) 10003) (((((c29.2.1 + 1) + 1 + 3) + 1) + 1) + 1) 21) ((((((c29.2.1 + 1) + 1 + 3) + 1) + 1) + 1) + 1) hKS.here hN77 hki82 (newI 20 (((((c29.2.1 + 1) + 1 + 3) + 1) + 1) + 1) (sI (newA ((((c29.2.1 + 1) + 1 + 3) + 1) + 1) 0 (sI (newA (((c29.2.1 + 1) + 1 + 3) + 1) 0 (sI (newA ((c29.2.1 + 1) + 1 + 3) 0 (sI (newM (c29.2.1 + 1) 3 (-1) (sI (newA c29.2.1 (-1) (sI (dnI 2 c18.2.1 c29.2.2) 1702 o ((c18.2.1 : Nat) : Int))) 1703 o ((c29.2.1 : Nat) : Int))) 1704 o (((c29.2.1 + 1) : Nat) : Int))) 1705 o ((((c29.2.1 + 1) + 1 + 3) : Nat) : Int))) 1706 o (((((c29.2.1 + 1) + 1 + 3) + 1) : Nat) : Int))) 1707 o ((((((c29.2.1 + 1) + 1 + 3) + 1) + 1) : Nat) : Int))) c85 hc85) q175 q176 q99 q177 hdI_X4 ⟨Nat.le_of_ble_eq_true rfl, Nat.le_of_ble_eq_true rfl⟩ rfl rfl (Nat.le_of_ble_eq_true rfl) dX1_init_85 rfl rfl (fun hKSc => ?_)
  have hK0 := hKS.kp hKSc hK0
  have hN8 := hKS.kp hKSc hN8
  have hN14 := hKS.kp hKSc hN14
  have hN25d := hKS.kp hKSc hN25d
  have hN38 := hKS.kp hKSc hN38
  have hN48 := hKS.kp hKSc hN48
  have hN57 := hKS.kp hKSc hN57
  have hN64 := hKS.kp hKSc hN64
  have hN71 := hKS.kp hKSc hN71
  have hN77 := hKS.kp hKSc hN77
  have hki82 := hKS.kp hKSc hki82
  have hKS := hKS.tr hKSc
  obtain ⟨hdn, h⟩ := dnP_some h
  refine V_done (ci := 3) (N := 15) (o := (((((c29.2.1 + 1) + 1 + 3) + 1) + 1) + 1)) X (C := RX4) (T := TX4) rfl rfl (by decide) (by decide) hN77 hdn ?_
  have hK0 := ku_kd (ci := 3) hN77 hK0
  have hN8 := ku_kd (ci := 3) hN77 hN8
  have hN14 := ku_kd (ci := 3) hN77 hN14
  have hN25d := ku_kd (ci := 3) hN77 hN25d
  have hN38 := ku_kd (ci := 3) hN77 hN38
  have hN48 := ku_kd (ci := 3) hN77 hN48
  have hN57 := ku_kd (ci := 3) hN77 hN57
  have hN64 := ku_kd (ci := 3) hN77 hN64
  have hN71 := ku_kd (ci := 3) hN77 hN71
  have hki82 := ku_kd (ci := 3) hN77 hki82
  have hKS := hKS.done (ci := 3) (by omega) (by decide) hN77 hdn
  have hN77d := (ku_self : ku c85.1 (((((c29.2.1 + 1) + 1 + 3) + 1) + 1) + 1) 4 (((((c29.2.1 + 1) + 1 + 3) + 1) + 1) + 1) = 4)
  refine V_putF (ty := (.object "RainWheel$Watch")) (ci := 17) (N := 18) (C := RX1) (T := TX1) (o := o) (j := 8) (a := (((((((c29.2.1 + 1) + 1 + 3) + 1) + 1) + 1) : Nat) : Int)) X hnm rfl in_X1 tyX1 tyX1_ok nmX1 (by decide) hK0 (by decide) rfl rfl pfd_LWatch rfl rfl q485 (fv_3i rfl (by rw [gI_sI, if_pos ⟨rfl, rfl⟩])) dX1_init_88 ?_
  refine V_aload_n X dX1_init_91 0 rfl ?_
  obtain ⟨hm, h⟩ := lim_some h
  have hz92 := hKS.1
  refine V_newA (ci := 22) (N := 7) (C := RX6) (T := TX6) X hX.2.2.2.1 hX.hA hm rfl in_X6 tyX6 tyX6_ok (by decide) (by decide) q270 q271 q101 df_22 dX1_init_92 ?_
  have hK0 := ku_kp (kd := 23) hKS hK0
  have hN8 := ku_kp (kd := 23) hKS hN8
  have hN14 := ku_kp (kd := 23) hKS hN14
  have hN25d := ku_kp (kd := 23) hKS hN25d
  have hN38 := ku_kp (kd := 23) hKS hN38
  have hN48 := ku_kp (kd := 23) hKS hN48
  have hN57 := ku_kp (kd := 23) hKS hN57
  have hN64 := ku_kp (kd := 23) hKS hN64
  have hN71 := ku_kp (kd := 23) hKS hN71
  have hki82 := ku_kp (kd := 23) hKS hki82
  have hN77d := ku_kp (kd := 23) hKS hN77d
  have hKS := hKS.upw (kd := 23) hm rfl
  have hN92 := (ku_self : ku (ku c85.1 (((((c29.2.1 + 1) + 1 + 3) + 1) + 1) + 1) 4) c85.2.1 23 c85.2.1 = 23)
  refine V_dup X dX1_init_95 rfl ?_
  refine V_aload_n X dX1_init_96 0 rfl ?_
  obtain ⟨i97, hvi97, hki97, h⟩ := rdR_some h
  refine V_get (ci := 17) (N := 18) (C := RX1) (T := TX1) (o := o) (j := 1) X rfl in_X1 (by decide) hK0 (by decide) q478 (fv_3i rfl hvi97) dX1_init_97 ?_
  obtain ⟨c100, hc100, h⟩ := bind_some_eq h
  refine V_callIA (As := [.ref (xb x + i97)]) (rest := [.ref (xb x + c85.2.1), .ref (xb x + o)]) (s1 := [.ref (xb x + c85.2.1), .ref (xb x + o)]) (o := c85.2.1) X hX.2.2.2.1 hX.hA hKS.2.1 (con_xSoonest_init wf N c85.2.1 i97 (ku (ku c85.1 (((((c29.2.1 + 1) + 1 + 3) + 1) + 1) + 1) 4) c85.2.1 23) (c85.2.1 + 1) hKS.here hN92 hki97 (newI 22 c85.2.1 (sI (dnI 3 (((((c29.2.1 + 1) + 1 + 3) + 1) + 1) + 1) c85.2.2) 1708 o (((((((c29.2.1 + 1) + 1 + 3) + 1) + 1) + 1) : Nat) : Int))) c100 hc100) q272 q273 q101 q274 hdI_X6 ⟨Nat.le_of_ble_eq_true rfl, Nat.le_of_ble_eq_true rfl⟩ rfl rfl (Nat.le_of_ble_eq_true rfl) dX1_init_100 rfl rfl (fun hKSc => ?_)
  have hK0 := hKS.kp hKSc hK0
  have hN8 := hKS.kp hKSc hN8
  have hN14 := hKS.kp hKSc hN14
  have hN25d := hKS.kp hKSc hN25d
  have hN38 := hKS.kp hKSc hN38
  have hN48 := hKS.kp hKSc hN48
  have hN57 := hKS.kp hKSc hN57
  have hN64 := hKS.kp hKSc hN64
  have hN71 := hKS.kp hKSc hN71
  have hki82 := hKS.kp hKSc hki82
  have hN77d := hKS.kp hKSc hN77d
  have hN92 := hKS.kp hKSc hN92
  have hki97 := hKS.kp hKSc hki97
  have hKS := hKS.tr hKSc
  obtain ⟨hdn, h⟩ := dnP_some h
  refine V_done (ci := 5) (N := 7) (o := c85.2.1) X (C := RX6) (T := TX6) rfl rfl (by decide) (by decide) hN92 hdn ?_
  have hK0 := ku_kd (ci := 5) hN92 hK0
  have hN8 := ku_kd (ci := 5) hN92 hN8
  have hN14 := ku_kd (ci := 5) hN92 hN14
  have hN25d := ku_kd (ci := 5) hN92 hN25d
  have hN38 := ku_kd (ci := 5) hN92 hN38
  have hN48 := ku_kd (ci := 5) hN92 hN48
  have hN57 := ku_kd (ci := 5) hN92 hN57
  have hN64 := ku_kd (ci := 5) hN92 hN64
  have hN71 := ku_kd (ci := 5) hN92 hN71
  have hki82 := ku_kd (ci := 5) hN92 hki82
  have hN77d := ku_kd (ci := 5) hN92 hN77d
  have hki97 := ku_kd (ci := 5) hN92 hki97
  have hKS := hKS.done (ci := 5) (by omega) (by decide) hN92 hdn
  have hN92d := (ku_self : ku c100.1 c85.2.1 6 c85.2.1 = 6)
  refine V_putF (ty := (.object "RainWheel$Soonest")) (ci := 17) (N := 18) (C := RX1) (T := TX1) (o := o) (j := 9) (a := ((c85.2.1 : Nat) : Int)) X hnm rfl in_X1 tyX1 tyX1_ok nmX1 (by decide) hK0 (by decide) rfl rfl pfd_LSoonest rfl rfl q486 (fv_3i rfl (by rw [gI_sI, if_pos ⟨rfl, rfl⟩])) dX1_init_103 ?_
  refine V_aload_n X dX1_init_106 0 rfl ?_
  obtain ⟨hm, h⟩ := lim_some h
  have hz107 := hKS.1
  refine V_newA (ci := 23) (N := 4) (C := RX7) (T := TX7) X hX.2.2.2.1 hX.hA hm rfl in_X7 tyX7 tyX7_ok (by decide) (by decide) q305 q306 q102 df_23 dX1_init_107 ?_
  have hK0 := ku_kp (kd := 24) hKS hK0
  have hN8 := ku_kp (kd := 24) hKS hN8
  have hN14 := ku_kp (kd := 24) hKS hN14
  have hN25d := ku_kp (kd := 24) hKS hN25d
  have hN38 := ku_kp (kd := 24) hKS hN38
  have hN48 := ku_kp (kd := 24) hKS hN48
  have hN57 := ku_kp (kd := 24) hKS hN57
  have hN64 := ku_kp (kd := 24) hKS hN64
  have hN71 := ku_kp (kd := 24) hKS hN71
  have hki82 := ku_kp (kd := 24) hKS hki82
  have hN77d := ku_kp (kd := 24) hKS hN77d
  have hki97 := ku_kp (kd := 24) hKS hki97
  have hN92d := ku_kp (kd := 24) hKS hN92d
  have hKS := hKS.upw (kd := 24) hm rfl
  have hN107 := (ku_self : ku (ku c100.1 c85.2.1 6) c100.2.1 24 c100.2.1 = 24)
  refine V_dup X dX1_init_110 rfl ?_
  obtain ⟨c111, hc111, h⟩ := bind_some_eq h
  refine V_callINA (As := []) (rest := [.ref (xb x + c100.2.1), .ref (xb x + o)]) (s1 := [.ref (xb x + c100.2.1), .ref (xb x + o)]) (o := c100.2.1) X hX.2.2.2.1 hX.hA hKS.2.1 (con_xRing_init wf c100.2.1 (ku (ku c100.1 c85.2.1 6) c100.2.1 24) (c100.2.1 + 1) hKS.here hN107 (newI 23 c100.2.1 (sI (dnI 5 c85.2.1 c100.2.2) 1709 o ((c85.2.1 : Nat) : Int))) c111 hc111) q307 q308 q102 q309 hdI_X7 ⟨Nat.le_of_ble_eq_true rfl, Nat.le_of_ble_eq_true rfl⟩ rfl rfl (Nat.le_of_ble_eq_true rfl) dX1_init_111 rfl rfl (fun hKSc => ?_)
  have hK0 := hKS.kp hKSc hK0
  have hN8 := hKS.kp hKSc hN8
  have hN14 := hKS.kp hKSc hN14
  have hN25d := hKS.kp hKSc hN25d
  have hN38 := hKS.kp hKSc hN38
  have hN48 := hKS.kp hKSc hN48
  have hN57 := hKS.kp hKSc hN57
  have hN64 := hKS.kp hKSc hN64
  have hN71 := hKS.kp hKSc hN71
  have hki82 := hKS.kp hKSc hki82
  have hN77d := hKS.kp hKSc hN77d
  have hki97 := hKS.kp hKSc hki97
  have hN92d := hKS.kp hKSc hN92d
  have hN107 := hKS.kp hKSc hN107
  have hKS := hKS.tr hKSc
  obtain ⟨hdn, h⟩ := dnP_some h
  refine V_done (ci := 6) (N := 4) (o := c100.2.1) X (C := RX7) (T := TX7) rfl rfl (by decide) (by decide) hN107 hdn ?_
  have hK0 := ku_kd (ci := 6) hN107 hK0
  have hN8 := ku_kd (ci := 6) hN107 hN8
  have hN14 := ku_kd (ci := 6) hN107 hN14
  have hN25d := ku_kd (ci := 6) hN107 hN25d
  have hN38 := ku_kd (ci := 6) hN107 hN38
  have hN48 := ku_kd (ci := 6) hN107 hN48
  have hN57 := ku_kd (ci := 6) hN107 hN57
  have hN64 := ku_kd (ci := 6) hN107 hN64
  have hN71 := ku_kd (ci := 6) hN107 hN71
  have hki82 := ku_kd (ci := 6) hN107 hki82
  have hN77d := ku_kd (ci := 6) hN107 hN77d
  have hki97 := ku_kd (ci := 6) hN107 hki97
  have hN92d := ku_kd (ci := 6) hN107 hN92d
  have hKS := hKS.done (ci := 6) (by omega) (by decide) hN107 hdn
  have hN107d := (ku_self : ku c111.1 c100.2.1 7 c100.2.1 = 7)
  refine V_putF (ty := (.object "RainWheel$Ring")) (ci := 17) (N := 18) (C := RX1) (T := TX1) (o := o) (j := 10) (a := ((c100.2.1 : Nat) : Int)) X hnm rfl in_X1 tyX1 tyX1_ok nmX1 (by decide) hK0 (by decide) rfl rfl pfd_LRing rfl rfl q487 (fv_3i rfl (by rw [gI_sI, if_pos ⟨rfl, rfl⟩])) dX1_init_114 ?_
  refine V_aload_n X dX1_init_117 0 rfl ?_
  obtain ⟨hm, h⟩ := lim_some h
  have hz118 := hKS.1
  refine V_newA (ci := 24) (N := 4) (C := RX8) (T := TX8) X hX.2.2.2.1 hX.hA hm rfl in_X8 tyX8 tyX8_ok (by decide) (by decide) q326 q327 q103 df_24 dX1_init_118 ?_
  have hK0 := ku_kp (kd := 25) hKS hK0
  have hN8 := ku_kp (kd := 25) hKS hN8
  have hN14 := ku_kp (kd := 25) hKS hN14
  have hN25d := ku_kp (kd := 25) hKS hN25d
  have hN38 := ku_kp (kd := 25) hKS hN38
  have hN48 := ku_kp (kd := 25) hKS hN48
  have hN57 := ku_kp (kd := 25) hKS hN57
  have hN64 := ku_kp (kd := 25) hKS hN64
  have hN71 := ku_kp (kd := 25) hKS hN71
  have hki82 := ku_kp (kd := 25) hKS hki82
  have hN77d := ku_kp (kd := 25) hKS hN77d
  have hki97 := ku_kp (kd := 25) hKS hki97
  have hN92d := ku_kp (kd := 25) hKS hN92d
  have hN107d := ku_kp (kd := 25) hKS hN107d
  have hKS := hKS.upw (kd := 25) hm rfl
  have hN118 := (ku_self : ku (ku c111.1 c100.2.1 7) c111.2.1 25 c111.2.1 = 25)
  refine V_dup X dX1_init_121 rfl ?_
  obtain ⟨c122, hc122, h⟩ := bind_some_eq h
  refine V_callINA (As := []) (rest := [.ref (xb x + c111.2.1), .ref (xb x + o)]) (s1 := [.ref (xb x + c111.2.1), .ref (xb x + o)]) (o := c111.2.1) X hX.2.2.2.1 hX.hA hKS.2.1 (con_xMiles_init wf c111.2.1 (ku (ku c111.1 c100.2.1 7) c111.2.1 25) (c111.2.1 + 1) hKS.here hN118 (newI 24 c111.2.1 (sI (dnI 6 c100.2.1 c111.2.2) 1710 o ((c100.2.1 : Nat) : Int))) c122 hc122) q328 q329 q103 q330 hdI_X8 ⟨Nat.le_of_ble_eq_true rfl, Nat.le_of_ble_eq_true rfl⟩ rfl rfl (Nat.le_of_ble_eq_true rfl) dX1_init_122 rfl rfl (fun hKSc => ?_)
  have hK0 := hKS.kp hKSc hK0
  have hN8 := hKS.kp hKSc hN8
  have hN14 := hKS.kp hKSc hN14
  have hN25d := hKS.kp hKSc hN25d
  have hN38 := hKS.kp hKSc hN38
  have hN48 := hKS.kp hKSc hN48
  have hN57 := hKS.kp hKSc hN57
  have hN64 := hKS.kp hKSc hN64
  have hN71 := hKS.kp hKSc hN71
  have hki82 := hKS.kp hKSc hki82
  have hN77d := hKS.kp hKSc hN77d
  have hki97 := hKS.kp hKSc hki97
  have hN92d := hKS.kp hKSc hN92d
  have hN107d := hKS.kp hKSc hN107d
  have hN118 := hKS.kp hKSc hN118
  have hKS := hKS.tr hKSc
  obtain ⟨hdn, h⟩ := dnP_some h
  refine V_done (ci := 7) (N := 4) (o := c111.2.1) X (C := RX8) (T := TX8) rfl rfl (by decide) (by decide) hN118 hdn ?_
  have hK0 := ku_kd (ci := 7) hN118 hK0
  have hN8 := ku_kd (ci := 7) hN118 hN8
  have hN14 := ku_kd (ci := 7) hN118 hN14
  have hN25d := ku_kd (ci := 7) hN118 hN25d
  have hN38 := ku_kd (ci := 7) hN118 hN38
  have hN48 := ku_kd (ci := 7) hN118 hN48
  have hN57 := ku_kd (ci := 7) hN118 hN57
  have hN64 := ku_kd (ci := 7) hN118 hN64
  have hN71 := ku_kd (ci := 7) hN118 hN71
  have hki82 := ku_kd (ci := 7) hN118 hki82
  have hN77d := ku_kd (ci := 7) hN118 hN77d
  have hki97 := ku_kd (ci := 7) hN118 hki97
  have hN92d := ku_kd (ci := 7) hN118 hN92d
  have hN107d := ku_kd (ci := 7) hN118 hN107d
  have hKS := hKS.done (ci := 7) (by omega) (by decide) hN118 hdn
  have hN118d := (ku_self : ku c122.1 c111.2.1 8 c111.2.1 = 8)
  refine V_putF (ty := (.object "RainWheel$Miles")) (ci := 17) (N := 18) (C := RX1) (T := TX1) (o := o) (j := 11) (a := ((c111.2.1 : Nat) : Int)) X hnm rfl in_X1 tyX1 tyX1_ok nmX1 (by decide) hK0 (by decide) rfl rfl pfd_LMiles rfl rfl q488 (fv_3i rfl (by rw [gI_sI, if_pos ⟨rfl, rfl⟩])) dX1_init_125 ?_
  refine V_aload_n X dX1_init_128 0 rfl ?_
  obtain ⟨hm, h⟩ := lim_some h
  have hz129 := hKS.1
  refine V_newA (ci := 25) (N := 24) (C := RX9) (T := TX9) X hX.2.2.2.1 hX.hA hm rfl in_X9 tyX9 tyX9_ok (by decide) (by decide) q347 q348 q104 df_25 dX1_init_129 ?_
  have hK0 := ku_kp (kd := 26) hKS hK0
  have hN8 := ku_kp (kd := 26) hKS hN8
  have hN14 := ku_kp (kd := 26) hKS hN14
  have hN25d := ku_kp (kd := 26) hKS hN25d
  have hN38 := ku_kp (kd := 26) hKS hN38
  have hN48 := ku_kp (kd := 26) hKS hN48
  have hN57 := ku_kp (kd := 26) hKS hN57
  have hN64 := ku_kp (kd := 26) hKS hN64
  have hN71 := ku_kp (kd := 26) hKS hN71
  have hki82 := ku_kp (kd := 26) hKS hki82
  have hN77d := ku_kp (kd := 26) hKS hN77d
  have hki97 := ku_kp (kd := 26) hKS hki97
  have hN92d := ku_kp (kd := 26) hKS hN92d
  have hN107d := ku_kp (kd := 26) hKS hN107d
  have hN118d := ku_kp (kd := 26) hKS hN118d
  have hKS := hKS.upw (kd := 26) hm rfl
  have hN129 := (ku_self : ku (ku c122.1 c111.2.1 8) c122.2.1 26 c122.2.1 = 26)
  refine V_dup X dX1_init_132 rfl ?_
  obtain ⟨c133, hc133, h⟩ := bind_some_eq h
  refine V_callIA (As := []) (rest := [.ref (xb x + c122.2.1), .ref (xb x + o)]) (s1 := [.ref (xb x + c122.2.1), .ref (xb x + o)]) (o := c122.2.1) X hX.2.2.2.1 hX.hA hKS.2.1 (con_xRoad_init wf N c122.2.1 (ku (ku c122.1 c111.2.1 8) c122.2.1 26) (c122.2.1 + 1) hKS.here hN129 (newI 25 c122.2.1 (sI (dnI 7 c111.2.1 c122.2.2) 1711 o ((c111.2.1 : Nat) : Int))) c133 hc133) q349 q350 q104 q351 hdI_X9 ⟨Nat.le_of_ble_eq_true rfl, Nat.le_of_ble_eq_true rfl⟩ rfl rfl (Nat.le_of_ble_eq_true rfl) dX1_init_133 rfl rfl (fun hKSc => ?_)
  have hK0 := hKS.kp hKSc hK0
  have hN8 := hKS.kp hKSc hN8
  have hN14 := hKS.kp hKSc hN14
  have hN25d := hKS.kp hKSc hN25d
  have hN38 := hKS.kp hKSc hN38
  have hN48 := hKS.kp hKSc hN48
  have hN57 := hKS.kp hKSc hN57
  have hN64 := hKS.kp hKSc hN64
  have hN71 := hKS.kp hKSc hN71
  have hki82 := hKS.kp hKSc hki82
  have hN77d := hKS.kp hKSc hN77d
  have hki97 := hKS.kp hKSc hki97
  have hN92d := hKS.kp hKSc hN92d
  have hN107d := hKS.kp hKSc hN107d
  have hN118d := hKS.kp hKSc hN118d
  have hN129 := hKS.kp hKSc hN129
  have hKS := hKS.tr hKSc
  obtain ⟨hdn, h⟩ := dnP_some h
  refine V_done (ci := 8) (N := 24) (o := c122.2.1) X (C := RX9) (T := TX9) rfl rfl (by decide) (by decide) hN129 hdn ?_
  have hK0 := ku_kd (ci := 8) hN129 hK0
  have hN8 := ku_kd (ci := 8) hN129 hN8
  have hN14 := ku_kd (ci := 8) hN129 hN14
  have hN25d := ku_kd (ci := 8) hN129 hN25d
  have hN38 := ku_kd (ci := 8) hN129 hN38
  have hN48 := ku_kd (ci := 8) hN129 hN48
  have hN57 := ku_kd (ci := 8) hN129 hN57
  have hN64 := ku_kd (ci := 8) hN129 hN64
  have hN71 := ku_kd (ci := 8) hN129 hN71
  have hki82 := ku_kd (ci := 8) hN129 hki82
  have hN77d := ku_kd (ci := 8) hN129 hN77d
  have hki97 := ku_kd (ci := 8) hN129 hki97
  have hN92d := ku_kd (ci := 8) hN129 hN92d
  have hN107d := ku_kd (ci := 8) hN129 hN107d
  have hN118d := ku_kd (ci := 8) hN129 hN118d
  have hKS := hKS.done (ci := 8) (by omega) (by decide) hN129 hdn
  have hN129d := (ku_self : ku c133.1 c122.2.1 9 c122.2.1 = 9)
  refine V_put (ty := (.object "RainWheel$Road")) (ci := 17) (N := 18) (C := RX1) (T := TX1) (o := o) (j := 12) (a := ((c122.2.1 : Nat) : Int)) X rfl in_X1 tyX1 tyX1_ok nmX1 (by decide) hK0 (by decide) rfl pfd_LRoad rfl rfl q489 (fv_3i rfl (by rw [gI_sI, if_pos ⟨rfl, rfl⟩])) dX1_init_136 ?_
  refine V_aload_n X dX1_init_139 0 rfl ?_
  refine V_iconst X dX1_init_140 ?_
  refine V_put (ty := .int) (ci := 17) (N := 18) (C := RX1) (T := TX1) (o := o) (j := 14) (a := (-1)) X rfl in_X1 tyX1 tyX1_ok nmX1 (by decide) hK0 (by decide) rfl pfd_I rfl rfl q491 (by rw [fv_0 rfl, gI_sI, if_pos ⟨rfl, rfl⟩]) dX1_init_141 ?_
  refine V_iconst X dX1_init_144 ?_
  refine V_istore_n X dX1_init_145 (by decide) (L' := [(1, vI 0), (0, .ref (xb x + o))]) rfl ?_
  obtain ⟨t3, t3q, h⟩ := bind_some_eq h
  refine V_sub [1, 0] rfl (LL146 N (((ku c133.1 c122.2.1 9), c133.2.1, (sI (sI (dnI 8 c122.2.1 c133.2.2) 1712 o ((c122.2.1 : Nat) : Int)) 1714 o (-1))), 0) _ t3q (fun hKS => ?_) hKS)
  have hK0 := hKS.keep h0K hK0e
  refine V_iconst X dX1_init_171 ?_
  refine V_istore_n X dX1_init_172 (by decide) (L' := [(1, vI 0), (0, .ref (xb x + o))]) rfl ?_
  obtain ⟨t4, t4q, h⟩ := bind_some_eq h
  refine V_sub [1, 0] rfl (LL173 N (t3, 0) _ t4q (fun hKS => ?_) hKS)
  have hK0 := hKS.keep h0K hK0e
  refine V_iconst X dX1_init_213 ?_
  refine V_istore_n X dX1_init_214 (by decide) (L' := [(1, vI 0), (0, .ref (xb x + o))]) rfl ?_
  exact V_sub [1, 0] rfl (LL215 N (t4, 0) _ h rfl hKS)
set_option maxHeartbeats 4000000 in
theorem con_xReader_init (wf : Bool) (o : Nat) (l1 : Nat) (n1 : Nat) (K : Nat → Nat) (sz : Nat) (hKS : KS wf K sz K sz) (hK0 : K o = 29) (hK1 : K l1 = 20000 + n1 ∧ n1 < 10000) (g : GS) (l2 : Int) (r : S3) (h : xReader_init o l1 n1 K sz g l2 = some r) : ConA wf sz yX12_init cX12_init 3 none 2 160 K (fun b => [.ref (b + o), .ref (b + l1), vI l2]) g (fun r => ((fun _ => none), r)) (.inr r) := by
  refine ConA.of RX12 (by decide) rfl (fun b => Nat.le_of_ble_eq_true rfl) (fun x hX hnm => ?_)
  have X := hX.1
  have h0K := hKS.2.2.1
  have hK0e := hK0
  unfold xReader_init at h
  show V x 3 K (sz - sz) (600 * (sz - sz)) sz g 0 [(0, .ref (xb x + o)), (1, .ref (xb x + l1)), (2, vI l2)] []
  refine V_aload_n X dX12_init_0 0 rfl ?_
  refine V_objI X q795 ⟨Nat.le_of_ble_eq_true rfl, Nat.le_of_ble_eq_true rfl⟩ dX12_init_1 ?_
  refine V_aload_n X dX12_init_4 0 rfl ?_
  refine V_aload_n X dX12_init_5 1 rfl ?_
  refine V_putF (ty := (.array .byte)) (ci := 28) (N := 4) (C := RX12) (T := TX12) (o := o) (j := 0) (a := ((l1 : Nat) : Int)) X hnm rfl in_X12 tyX12 tyX12_ok nmX12 (by decide) hK0 (by decide) rfl rfl pfd_AB rfl rfl q796 (fv_3i rfl (by rw [gI_sI, if_pos ⟨rfl, rfl⟩])) dX12_init_6 ?_
  refine V_aload_n X dX12_init_9 0 rfl ?_
  refine V_iload_n X dX12_init_10 2 rfl ?_
  refine V_putF (ty := .int) (ci := 28) (N := 4) (C := RX12) (T := TX12) (o := o) (j := 1) (a := l2) X hnm rfl in_X12 tyX12 tyX12_ok nmX12 (by decide) hK0 (by decide) rfl rfl pfd_I rfl rfl q797 (by rw [fv_0 rfl, gI_sI, if_pos ⟨rfl, rfl⟩]) dX12_init_11 ?_
  have hr := Option.some.inj h
  subst hr
  exact V_endA_v hX rfl hKS dX12_init_14
set_option maxHeartbeats 4000000 in
theorem con_xRoadReader_init (wf : Bool) (N : Nat) (o : Nat) (l1 : Nat) (K : Nat → Nat) (sz : Nat) (hKS : KS wf K sz K sz) (hK0 : K o = 28) (hK1 : K l1 = 12) (g : GS) (r : S3) (h : xRoadReader_init N o l1 K sz g = some r) : ConA wf sz yX11_init cX11_init 2 none 7 181 K (fun b => [.ref (b + o), .ref (b + l1)]) g (fun r => ((fun _ => none), r)) (.inr r) := by
  refine ConA.of RX11 (by decide) rfl (fun b => Nat.le_of_ble_eq_true rfl) (fun x hX hnm => ?_)
  have X := hX.1
  have h0K := hKS.2.2.1
  have hK0e := hK0
  have hK1e := hK1
  unfold xRoadReader_init at h
  show V x 2 K (sz - sz) (600 * (sz - sz)) sz g 0 [(0, .ref (xb x + o)), (1, .ref (xb x + l1))] []
  refine V_aload_n X dX11_init_0 0 rfl ?_
  refine V_objI X q812 ⟨Nat.le_of_ble_eq_true rfl, Nat.le_of_ble_eq_true rfl⟩ dX11_init_1 ?_
  refine V_aload_n X dX11_init_4 0 rfl ?_
  refine V_bipush X dX11_init_5 (by decide) ?_
  obtain ⟨hm, h⟩ := lim_some h
  have hz7 := hKS.1
  have hz0 : K sz = 0 := hKS.2.2.1 _ (Nat.le_refl _)
  refine V_anewSA (i := 0) (N := 12) X hX.2.2.2.1 hX.hA hm q813 q814 rfl (by decide) dX11_init_7 ?_
  refine VW_dup X dX11_init_10 rfl ?_
  refine VW_iconst X dX11_init_11 ?_
  refine VW_ldcS X ((xok_sf X).vkD 8 (by decide) q815) dX11_init_12 ?_
  refine VW_aast (m := 0) X hz0 (hX.hA _ (by omega)) (by decide) dX11_init_14 ?_
  refine VW_dup X dX11_init_15 rfl ?_
  refine VW_iconst X dX11_init_16 ?_
  refine VW_ldcS X ((xok_sf X).vkD 9 (by decide) q816) dX11_init_17 ?_
  refine VW_aast (m := 1) X hz0 (hX.hA _ (by omega)) (by decide) dX11_init_19 ?_
  refine VW_dup X dX11_init_20 rfl ?_
  refine VW_iconst X dX11_init_21 ?_
  refine VW_ldcS X ((xok_sf X).vkD 10 (by decide) q817) dX11_init_22 ?_
  refine VW_aast (m := 2) X hz0 (hX.hA _ (by omega)) (by decide) dX11_init_24 ?_
  refine VW_dup X dX11_init_25 rfl ?_
  refine VW_iconst X dX11_init_26 ?_
  refine VW_ldcS X ((xok_sf X).vkD 11 (by decide) q818) dX11_init_27 ?_
  refine VW_aast (m := 3) X hz0 (hX.hA _ (by omega)) (by decide) dX11_init_29 ?_
  refine VW_dup X dX11_init_30 rfl ?_
  refine VW_iconst X dX11_init_31 ?_
  refine VW_ldcS X ((xok_sf X).vkD 12 (by decide) q819) dX11_init_32 ?_
  refine VW_aast (m := 4) X hz0 (hX.hA _ (by omega)) (by decide) dX11_init_34 ?_
  refine VW_dup X dX11_init_35 rfl ?_
  refine VW_iconst X dX11_init_36 ?_
  refine VW_ldcS X ((xok_sf X).vkD 13 (by decide) q820) dX11_init_37 ?_
  refine VW_aast (m := 5) X hz0 (hX.hA _ (by omega)) (by decide) dX11_init_39 ?_
  refine VW_dup X dX11_init_40 rfl ?_
  refine VW_bipush X dX11_init_41 (by decide) ?_
  refine VW_ldcS X ((xok_sf X).vkD 14 (by decide) q821) dX11_init_43 ?_
  refine VW_aast (m := 6) X hz0 (hX.hA _ (by omega)) (by decide) dX11_init_45 ?_
  refine VW_dup X dX11_init_46 rfl ?_
  refine VW_bipush X dX11_init_47 (by decide) ?_
  refine VW_ldcS X ((xok_sf X).vkD 15 (by decide) q822) dX11_init_49 ?_
  refine VW_aast (m := 7) X hz0 (hX.hA _ (by omega)) (by decide) dX11_init_51 ?_
  refine VW_dup X dX11_init_52 rfl ?_
  refine VW_bipush X dX11_init_53 (by decide) ?_
  refine VW_ldcS X ((xok_sf X).vkD 16 (by decide) q823) dX11_init_55 ?_
  refine VW_aast (m := 8) X hz0 (hX.hA _ (by omega)) (by decide) dX11_init_57 ?_
  refine VW_dup X dX11_init_58 rfl ?_
  refine VW_bipush X dX11_init_59 (by decide) ?_
  refine VW_ldcS X ((xok_sf X).vkD 17 (by decide) q824) dX11_init_61 ?_
  refine VW_aast (m := 9) X hz0 (hX.hA _ (by omega)) (by decide) dX11_init_63 ?_
  refine VW_dup X dX11_init_64 rfl ?_
  refine VW_bipush X dX11_init_65 (by decide) ?_
  refine VW_ldcS X ((xok_sf X).vkD 18 (by decide) q825) dX11_init_67 ?_
  refine VW_aast (m := 10) X hz0 (hX.hA _ (by omega)) (by decide) dX11_init_69 ?_
  refine VW_dup X dX11_init_70 rfl ?_
  refine VW_bipush X dX11_init_71 (by decide) ?_
  refine VW_ldcS X ((xok_sf X).vkD 19 (by decide) q826) dX11_init_73 ?_
  refine VW_aast (m := 11) X hz0 (hX.hA _ (by omega)) (by decide) dX11_init_75 ?_
  refine VW_end (by decide) (hX.hA _ (by omega)) rfl ?_
  have hK0 := ku_kp (kd := 200) hKS hK0
  have hK1 := ku_kp (kd := 200) hKS hK1
  have hKS := hKS.upw (kd := 200) hm rfl
  have hN7 := (ku_self : ku K sz 200 sz = 200)
  refine V_putF (ty := (.array (.object "java/lang/String"))) (ci := 27) (N := 4) (C := RX11) (T := TX11) (o := o) (j := 0) (a := ((sz : Nat) : Int)) X hnm rfl in_X11 tyX11 tyX11_ok nmX11 (by decide) hK0 (by decide) rfl rfl pfd_ALString rfl rfl q829 (fv_3i rfl (by rw [gI_sI, if_pos ⟨rfl, rfl⟩])) dX11_init_76 ?_
  refine V_aload_n X dX11_init_79 0 rfl ?_
  obtain ⟨hm, h⟩ := lim_some h
  have hz80 := hKS.1
  refine V_newA (ci := 25) (N := 24) (C := RX9) (T := TX9) X hX.2.2.2.1 hX.hA hm rfl in_X9 tyX9 tyX9_ok (by decide) (by decide) q827 q348 q104 df_25 dX11_init_80 ?_
  have hK0 := ku_kp (kd := 26) hKS hK0
  have hK1 := ku_kp (kd := 26) hKS hK1
  have hN7 := ku_kp (kd := 26) hKS hN7
  have hKS := hKS.upw (kd := 26) hm rfl
  have hN80 := (ku_self : ku (ku K sz 200) (sz + 1) 26 (sz + 1) = 26)
  refine V_dup X dX11_init_83 rfl ?_
  obtain ⟨c84, hc84, h⟩ := bind_some_eq h
  refine V_callIA (As := []) (rest := [.ref (xb x + (sz + 1)), .ref (xb x + o)]) (s1 := [.ref (xb x + (sz + 1)), .ref (xb x + o)]) (o := (sz + 1)) X hX.2.2.2.1 hX.hA hKS.2.1 (con_xRoad_init wf N (sz + 1) (ku (ku K sz 200) (sz + 1) 26) ((sz + 1) + 1) hKS.here hN80 (newI 25 (sz + 1) (sI g 2700 o ((sz : Nat) : Int))) c84 hc84) q828 q350 q104 q351 hdI_X9 ⟨Nat.le_of_ble_eq_true rfl, Nat.le_of_ble_eq_true rfl⟩ rfl rfl (Nat.le_of_ble_eq_true rfl) dX11_init_84 rfl rfl (fun hKSc => ?_)
  have hK0 := hKS.kp hKSc hK0
  have hK1 := hKS.kp hKSc hK1
  have hN7 := hKS.kp hKSc hN7
  have hN80 := hKS.kp hKSc hN80
  have hKS := hKS.tr hKSc
  obtain ⟨hdn, h⟩ := dnP_some h
  refine V_done (ci := 8) (N := 24) (o := (sz + 1)) X (C := RX9) (T := TX9) rfl rfl (by decide) (by decide) hN80 hdn ?_
  have hK0 := ku_kd (ci := 8) hN80 hK0
  have hK1 := ku_kd (ci := 8) hN80 hK1
  have hN7 := ku_kd (ci := 8) hN80 hN7
  have hKS := hKS.done (ci := 8) (by omega) (by decide) hN80 hdn
  have hN80d := (ku_self : ku c84.1 (sz + 1) 9 (sz + 1) = 9)
  refine V_putF (ty := (.object "RainWheel$Road")) (ci := 27) (N := 4) (C := RX11) (T := TX11) (o := o) (j := 2) (a := (((sz + 1) : Nat) : Int)) X hnm rfl in_X11 tyX11 tyX11_ok nmX11 (by decide) hK0 (by decide) rfl rfl pfd_LRoad rfl rfl q831 (fv_3i rfl (by rw [gI_sI, if_pos ⟨rfl, rfl⟩])) dX11_init_87 ?_
  refine V_aload_n X dX11_init_90 0 rfl ?_
  refine V_aload_n X dX11_init_91 1 rfl ?_
  refine V_putF (ty := (.object "RainWheel$Reader")) (ci := 27) (N := 4) (C := RX11) (T := TX11) (o := o) (j := 1) (a := ((l1 : Nat) : Int)) X hnm rfl in_X11 tyX11 tyX11_ok nmX11 (by decide) hK0 (by decide) rfl rfl pfd_LReader rfl rfl q830 (fv_3i rfl (by rw [gI_sI, if_pos ⟨rfl, rfl⟩])) dX11_init_92 ?_
  have hr := Option.some.inj h
  subst hr
  exact V_endA_v hX rfl hKS dX11_init_95
set_option maxHeartbeats 4000000 in
theorem con_xLawReader_init (wf : Bool) (o : Nat) (l1 : Nat) (K : Nat → Nat) (sz : Nat) (hKS : KS wf K sz K sz) (hK0 : K o = 31) (hK1 : K l1 = 12) (g : GS) (r : S3) (h : xLawReader_init o l1 K sz g = some r) : ConA wf sz yX14_init cX14_init 2 none 2 160 K (fun b => [.ref (b + o), .ref (b + l1)]) g (fun r => ((fun _ => none), r)) (.inr r) := by
  refine ConA.of RX14 (by decide) rfl (fun b => Nat.le_of_ble_eq_true rfl) (fun x hX hnm => ?_)
  have X := hX.1
  have h0K := hKS.2.2.1
  have hK0e := hK0
  have hK1e := hK1
  unfold xLawReader_init at h
  show V x 2 K (sz - sz) (600 * (sz - sz)) sz g 0 [(0, .ref (xb x + o)), (1, .ref (xb x + l1))] []
  refine V_aload_n X dX14_init_0 0 rfl ?_
  refine V_objI X q1003 ⟨Nat.le_of_ble_eq_true rfl, Nat.le_of_ble_eq_true rfl⟩ dX14_init_1 ?_
  refine V_aload_n X dX14_init_4 0 rfl ?_
  refine V_bipush X dX14_init_5 (by decide) ?_
  obtain ⟨hm, h⟩ := lim_some h
  have hz7 := hKS.1
  have hz0 : K sz = 0 := hKS.2.2.1 _ (Nat.le_refl _)
  refine V_anewSA (i := 1) (N := 6) X hX.2.2.2.1 hX.hA hm q1004 q814 rfl (by decide) dX14_init_7 ?_
  refine VW_dup X dX14_init_10 rfl ?_
  refine VW_iconst X dX14_init_11 ?_
  refine VW_ldcS X ((xok_sf X).vkD 0 (by decide) q1005) dX14_init_12 ?_
  refine VW_aast (m := 0) X hz0 (hX.hA _ (by omega)) (by decide) dX14_init_14 ?_
  refine VW_dup X dX14_init_15 rfl ?_
  refine VW_iconst X dX14_init_16 ?_
  refine VW_ldcS X ((xok_sf X).vkD 1 (by decide) q1006) dX14_init_17 ?_
  refine VW_aast (m := 1) X hz0 (hX.hA _ (by omega)) (by decide) dX14_init_19 ?_
  refine VW_dup X dX14_init_20 rfl ?_
  refine VW_iconst X dX14_init_21 ?_
  refine VW_ldcS X ((xok_sf X).vkD 2 (by decide) q1007) dX14_init_22 ?_
  refine VW_aast (m := 2) X hz0 (hX.hA _ (by omega)) (by decide) dX14_init_24 ?_
  refine VW_dup X dX14_init_25 rfl ?_
  refine VW_iconst X dX14_init_26 ?_
  refine VW_ldcS X ((xok_sf X).vkD 3 (by decide) q1008) dX14_init_27 ?_
  refine VW_aast (m := 3) X hz0 (hX.hA _ (by omega)) (by decide) dX14_init_29 ?_
  refine VW_dup X dX14_init_30 rfl ?_
  refine VW_iconst X dX14_init_31 ?_
  refine VW_ldcS X ((xok_sf X).vkD 4 (by decide) q1009) dX14_init_32 ?_
  refine VW_aast (m := 4) X hz0 (hX.hA _ (by omega)) (by decide) dX14_init_34 ?_
  refine VW_dup X dX14_init_35 rfl ?_
  refine VW_iconst X dX14_init_36 ?_
  refine VW_ldcS X ((xok_sf X).vkD 5 (by decide) q1010) dX14_init_37 ?_
  refine VW_aast (m := 5) X hz0 (hX.hA _ (by omega)) (by decide) dX14_init_39 ?_
  refine VW_end (by decide) (hX.hA _ (by omega)) rfl ?_
  have hK0 := ku_kp (kd := 201) hKS hK0
  have hK1 := ku_kp (kd := 201) hKS hK1
  have hKS := hKS.upw (kd := 201) hm rfl
  have hN7 := (ku_self : ku K sz 201 sz = 201)
  refine V_putF (ty := (.array (.object "java/lang/String"))) (ci := 30) (N := 2) (C := RX14) (T := TX14) (o := o) (j := 0) (a := ((sz : Nat) : Int)) X hnm rfl in_X14 tyX14 tyX14_ok nmX14 (by decide) hK0 (by decide) rfl rfl pfd_ALString rfl rfl q1011 (fv_3i rfl (by rw [gI_sI, if_pos ⟨rfl, rfl⟩])) dX14_init_40 ?_
  refine V_aload_n X dX14_init_43 0 rfl ?_
  refine V_aload_n X dX14_init_44 1 rfl ?_
  refine V_putF (ty := (.object "RainWheel$Reader")) (ci := 30) (N := 2) (C := RX14) (T := TX14) (o := o) (j := 1) (a := ((l1 : Nat) : Int)) X hnm rfl in_X14 tyX14 tyX14_ok nmX14 (by decide) hK0 (by decide) rfl rfl pfd_LReader rfl rfl q1012 (fv_3i rfl (by rw [gI_sI, if_pos ⟨rfl, rfl⟩])) dX14_init_45 ?_
  have hr := Option.some.inj h
  subst hr
  exact V_endA_v hX rfl hKS dX14_init_48
set_option maxHeartbeats 4000000 in
theorem con_xTwo_init (wf : Bool) (o : Nat) (l2 : Nat) (l3 : Nat) (K : Nat → Nat) (sz : Nat) (hKS : KS wf K sz K sz) (hK0 : K o = 15) (g : GS) (l1 : Int) (r : S3) (h : xTwo_init o l2 l3 K sz g l1 = some r) : ConA wf sz yX15_init cX15_init 4 none 2 160 K (fun b => [.ref (b + o), vI l1, .ref (b + l2), .ref (b + l3)]) g (fun r => ((fun _ => none), r)) (.inr r) := by
  refine ConA.of RX15 (by decide) rfl (fun b => Nat.le_of_ble_eq_true rfl) (fun x hX hnm => ?_)
  have X := hX.1
  have h0K := hKS.2.2.1
  have hK0e := hK0
  unfold xTwo_init at h
  show V x 4 K (sz - sz) (600 * (sz - sz)) sz g 0 [(0, .ref (xb x + o)), (1, vI l1), (2, .ref (xb x + l2)), (3, .ref (xb x + l3))] []
  refine V_aload_n X dX15_init_0 0 rfl ?_
  refine V_objI X q1052 ⟨Nat.le_of_ble_eq_true rfl, Nat.le_of_ble_eq_true rfl⟩ dX15_init_1 ?_
  refine V_aload_n X dX15_init_4 0 rfl ?_
  refine V_iload_n X dX15_init_5 1 rfl ?_
  obtain ⟨hch, h⟩ := chK_some h
  refine V_putF (ty := .char) (ci := 14) (N := 3) (C := RX15) (T := TX15) (o := o) (j := 0) (a := l1) X hnm rfl in_X15 tyX15 tyX15_ok nmX15 (by decide) hK0 (by decide) rfl rfl pfd_C (nar_c hch.1 hch.2) (fits_c hch.1 hch.2) q1053 (by rw [fv_0 rfl, gI_sI, if_pos ⟨rfl, rfl⟩]) dX15_init_6 ?_
  refine V_aload_n X dX15_init_9 0 rfl ?_
  refine V_aload_n X dX15_init_10 2 rfl ?_
  refine V_putF (ty := (.object "RainWheel$Term")) (ci := 14) (N := 3) (C := RX15) (T := TX15) (o := o) (j := 1) (a := ((l2 : Nat) : Int)) X hnm rfl in_X15 tyX15 tyX15_ok nmX15 (by decide) hK0 (by decide) rfl rfl pfd_LTerm rfl rfl q1054 (fv_3i rfl (by rw [gI_sI, if_pos ⟨rfl, rfl⟩])) dX15_init_11 ?_
  refine V_aload_n X dX15_init_14 0 rfl ?_
  refine V_aload_n X dX15_init_15 3 rfl ?_
  refine V_putF (ty := (.object "RainWheel$Term")) (ci := 14) (N := 3) (C := RX15) (T := TX15) (o := o) (j := 2) (a := ((l3 : Nat) : Int)) X hnm rfl in_X15 tyX15 tyX15_ok nmX15 (by decide) hK0 (by decide) rfl rfl pfd_LTerm rfl rfl q1055 (fv_3i rfl (by rw [gI_sI, if_pos ⟨rfl, rfl⟩])) dX15_init_16 ?_
  have hr := Option.some.inj h
  subst hr
  exact V_endA_v hX rfl hKS dX15_init_19
set_option maxHeartbeats 4000000 in
theorem con_xAmount_init (wf : Bool) (o : Nat) (K : Nat → Nat) (sz : Nat) (hKS : KS wf K sz K sz) (hK0 : K o = 16) (g : GS) (l1 : Int) (r : S3) (h : xAmount_init o K sz g l1 = some r) : ConA wf sz yX16_init cX16_init 2 none 2 160 K (fun b => [.ref (b + o), vI l1]) g (fun r => ((fun _ => none), r)) (.inr r) := by
  refine ConA.of RX16 (by decide) rfl (fun b => Nat.le_of_ble_eq_true rfl) (fun x hX hnm => ?_)
  have X := hX.1
  have h0K := hKS.2.2.1
  have hK0e := hK0
  unfold xAmount_init at h
  show V x 2 K (sz - sz) (600 * (sz - sz)) sz g 0 [(0, .ref (xb x + o)), (1, vI l1)] []
  refine V_aload_n X dX16_init_0 0 rfl ?_
  refine V_objI X q1071 ⟨Nat.le_of_ble_eq_true rfl, Nat.le_of_ble_eq_true rfl⟩ dX16_init_1 ?_
  refine V_aload_n X dX16_init_4 0 rfl ?_
  refine V_iload_n X dX16_init_5 1 rfl ?_
  refine V_putF (ty := .int) (ci := 15) (N := 1) (C := RX16) (T := TX16) (o := o) (j := 0) (a := l1) X hnm rfl in_X16 tyX16 tyX16_ok nmX16 (by decide) hK0 (by decide) rfl rfl pfd_I rfl rfl q1072 (by rw [fv_0 rfl, gI_sI, if_pos ⟨rfl, rfl⟩]) dX16_init_6 ?_
  have hr := Option.some.inj h
  subst hr
  exact V_endA_v hX rfl hKS dX16_init_9
set_option maxHeartbeats 4000000 in
theorem con_xKnown_init (wf : Bool) (o : Nat) (K : Nat → Nat) (sz : Nat) (hKS : KS wf K sz K sz) (hK0 : K o = 17) (g : GS) (l1 : Int) (r : S3) (h : xKnown_init o K sz g l1 = some r) : ConA wf sz yX17_init cX17_init 2 none 2 160 K (fun b => [.ref (b + o), vI l1]) g (fun r => ((fun _ => none), r)) (.inr r) := by
  refine ConA.of RX17 (by decide) rfl (fun b => Nat.le_of_ble_eq_true rfl) (fun x hX hnm => ?_)
  have X := hX.1
  have h0K := hKS.2.2.1
  have hK0e := hK0
  unfold xKnown_init at h
  show V x 2 K (sz - sz) (600 * (sz - sz)) sz g 0 [(0, .ref (xb x + o)), (1, vI l1)] []
  refine V_aload_n X dX17_init_0 0 rfl ?_
  refine V_objI X q1081 ⟨Nat.le_of_ble_eq_true rfl, Nat.le_of_ble_eq_true rfl⟩ dX17_init_1 ?_
  refine V_aload_n X dX17_init_4 0 rfl ?_
  refine V_iload_n X dX17_init_5 1 rfl ?_
  refine V_putF (ty := .int) (ci := 16) (N := 1) (C := RX17) (T := TX17) (o := o) (j := 0) (a := l1) X hnm rfl in_X17 tyX17 tyX17_ok nmX17 (by decide) hK0 (by decide) rfl rfl pfd_I rfl rfl q1082 (by rw [fv_0 rfl, gI_sI, if_pos ⟨rfl, rfl⟩]) dX17_init_6 ?_
  have hr := Option.some.inj h
  subst hr
  exact V_endA_v hX rfl hKS dX17_init_9
set_option maxHeartbeats 4000000 in
theorem con_xLawReader_value_F (N : Nat) (o : Nat) (fr lo : Nat) (R_sum : (Nat → Nat) → Nat → GS → Option ((Nat × S3) ⊕ (Nat × S3))) (H_sum : ∀ (K : Nat → Nat) (sz : Nat) (hKS : KS true K sz K sz) (hK0 : K o = 14) (g : GS) (r : ((Nat × S3) ⊕ (Nat × S3))), R_sum K sz g = some r → ConA true sz yX14_sum cX14_sum 2 (some (.object "RainWheel$Term")) fr lo K (fun b => [.ref (b + o)]) g (fun r => ((fun b => some (.ref (b + r.1))), r.2)) r) (K : Nat → Nat) (sz : Nat) (hKS : KS true K sz K sz) (hK0 : K o = 14) (g : GS) (r : ((Nat × S3) ⊕ (Nat × S3))) (h : xLawReader_value_F N R_sum o K sz g = some r) : ConA true sz yX14_value cX14_value 4 (some (.object "RainWheel$Term")) (fr + 8) (lo + 220) K (fun b => [.ref (b + o)]) g (fun r => ((fun b => some (.ref (b + r.1))), r.2)) r := by
  refine ConA.of RX14 (by decide) rfl (fun b => Nat.le_of_ble_eq_true rfl) (fun x hX hnm => ?_)
  have X := hX.1
  have h0K := hKS.2.2.1
  have hK0e := hK0
  have hWS := hKS.2.2.2.2 rfl
  have hW := hWS.1
  have J26 : ∀ (g : S3) (l1 : Int) (hKS : KS true K sz g.1 g.2.1), xLawReader_value_F_j26 N R_sum o g l1 = some r → V x 4 g.1 (g.2.1 - sz) (600 * (g.2.1 - sz)) g.2.1 g.2.2 26 [(0, .ref (xb x + o)), (1, vI l1)] [] := by
    intro g l1 hKS h
    unfold xLawReader_value_F_j26 at h
    have hWS := hKS.2.2.2.2 rfl
    have hW := hWS.1
    have hK0 := hKS.keep h0K hK0e
    refine V_aload_n X dX14_value_26 0 rfl ?_
    refine V_get (ci := 13) (N := 2) (C := RX14) (T := TX14) (o := o) (j := 1) X rfl in_X14 (by decide) hK0 (by decide) q1012 (fv_1 (i := (o + 1)) rfl rfl) dX14_value_27 ?_
    obtain ⟨c30, hc30, h⟩ := bind_some_eq h
    rcases c30 with ⟨e30_, s30_⟩ | y30
    · replace h := thT_l h
      obtain ⟨hm, h⟩ := lim_some h
      have hr := Option.some.inj h
      subst hr
      exact RunA.out (runV_A (ci := 11) (N := 4) (T := TX12) (As := []) (rest := []) (o := (o + 1)) X hKS.2.1 (ConThr.toA (β := Unit) (v := fun _ => (fun _ => none, g.1, g.2.1, g.2.2)) (con_xReader_opens g.1 hW N (o + 1) (hW.blk (by decide) hK0 1 (by decide) rfl) g.2.1 hWS g.2.2 (.inl (e30_, s30_)) hc30) hm (hKS.here.kEw _ hm)) gwX14_opens_65 hdV_X12_opens ⟨by first | omega | (dsimp only [rmA]; omega), by first | omega | (dsimp only [rmA]; omega)⟩ rfl (by decide) (hW.blk (by decide) hK0 1 (by decide) rfl) rfl rfl (Nat.le_of_ble_eq_true rfl) dX14_value_30 rfl) hX (fun _ h => nomatch h) hKS
    replace h := thT_r h
    refine V_callV1 (ci := 11) (N := 4) (T := TX12) (As := []) (rest := []) (s1 := []) (o := (o + 1)) X (con_xReader_opens g.1 hW N (o + 1) (hW.blk (by decide) hK0 1 (by decide) rfl) g.2.1 hWS g.2.2 (.inr y30) hc30) gwX14_opens_65 hdV_X12_opens ⟨by first | omega | (dsimp only [rmA]; omega), by first | omega | (dsimp only [rmA]; omega)⟩ rfl (by decide) (hW.blk (by decide) hK0 1 (by decide) rfl) rfl rfl (Nat.le_of_ble_eq_true rfl) (limcc hKS.2.1) dX14_value_30 rfl rfl ?_
    refine V_aload_n X dX14_value_33 0 rfl ?_
    refine V_get (ci := 13) (N := 2) (C := RX14) (T := TX14) (o := o) (j := 1) X rfl in_X14 (by decide) hK0 (by decide) q1012 (fv_1 (i := (o + 1)) rfl rfl) dX14_value_34 ?_
    obtain ⟨c37, hc37, h⟩ := bind_some_eq h
    refine V_callV (ci := 11) (N := 4) (T := TX12) (As := []) (rest := []) (s1 := []) (o := (o + 1)) X (con_xReader_skipsWord g.1 hW N (o + 1) (hW.blk (by decide) hK0 1 (by decide) rfl) y30 c37 hc37) gwX14_skipsWord_68 hdV_X12_skipsWord ⟨by first | omega | (dsimp only [rmA]; omega), by first | omega | (dsimp only [rmA]; omega)⟩ rfl (by decide) (hW.blk (by decide) hK0 1 (by decide) rfl) rfl rfl (Nat.le_of_ble_eq_true rfl) (limcc hKS.2.1) dX14_value_37 rfl rfl ?_
    refine V_aload_n X dX14_value_40 0 rfl ?_
    refine V_get (ci := 13) (N := 2) (C := RX14) (T := TX14) (o := o) (j := 1) X rfl in_X14 (by decide) hK0 (by decide) q1012 (fv_1 (i := (o + 1)) rfl rfl) dX14_value_41 ?_
    refine V_bipush X dX14_value_44 (by decide) ?_
    obtain ⟨c46, hc46, h⟩ := bind_some_eq h
    rcases c46 with ⟨e46_, s46_⟩ | y46
    · replace h := thT_l h
      obtain ⟨hm, h⟩ := lim_some h
      have hr := Option.some.inj h
      subst hr
      exact RunA.out (runV_A (ci := 11) (N := 4) (T := TX12) (As := [vI 91]) (rest := []) (o := (o + 1)) X hKS.2.1 (ConThr.toA (β := Unit) (v := fun _ => (fun _ => none, g.1, g.2.1, c37)) (con_xReader_sign g.1 hW N (o + 1) (hW.blk (by decide) hK0 1 (by decide) rfl) g.2.1 hWS c37 91 (.inl (e46_, s46_)) hc46) hm (hKS.here.kEw _ hm)) gwX14_sign_71 hdV_X12_sign ⟨by first | omega | (dsimp only [rmA]; omega), by first | omega | (dsimp only [rmA]; omega)⟩ rfl (by decide) (hW.blk (by decide) hK0 1 (by decide) rfl) rfl rfl (Nat.le_of_ble_eq_true rfl) dX14_value_46 rfl) hX (fun _ h => nomatch h) hKS
    replace h := thT_r h
    refine V_callV1 (ci := 11) (N := 4) (T := TX12) (As := [vI 91]) (rest := []) (s1 := []) (o := (o + 1)) X (con_xReader_sign g.1 hW N (o + 1) (hW.blk (by decide) hK0 1 (by decide) rfl) g.2.1 hWS c37 91 (.inr y46) hc46) gwX14_sign_71 hdV_X12_sign ⟨by first | omega | (dsimp only [rmA]; omega), by first | omega | (dsimp only [rmA]; omega)⟩ rfl (by decide) (hW.blk (by decide) hK0 1 (by decide) rfl) rfl rfl (Nat.le_of_ble_eq_true rfl) (limcc hKS.2.1) dX14_value_46 rfl rfl ?_
    refine V_aload_n X dX14_value_49 0 rfl ?_
    obtain ⟨c50, hc50, h⟩ := bind_some_eq h
    rcases c50 with ⟨e50_, s50_⟩ | y50
    · replace h := thT_l h
      have hr := Option.some.inj h
      subst hr
      exact RunA.out (runV_A (ci := 13) (N := 2) (T := TX14) (As := []) (rest := []) (o := o) X hKS.2.1 (H_sum g.1 g.2.1 hKS.here hK0 y46 (.inl (e50_, s50_)) hc50) gwX14_sum_33 hdV_X14_sum ⟨by first | omega | (dsimp only [rmA]; omega), by first | omega | (dsimp only [rmA]; omega)⟩ rfl (by decide) hK0 rfl rfl (Nat.le_of_ble_eq_true rfl) dX14_value_50 rfl) hX (fun _ h => nomatch h) hKS
    replace h := thT_r h
    refine RunA.back (s1 := [.ref (xb x + y50.1)]) (runV_A (ci := 13) (N := 2) (T := TX14) (As := []) (rest := []) (o := o) X hKS.2.1 (H_sum g.1 g.2.1 hKS.here hK0 y46 (.inr y50) hc50) gwX14_sum_33 hdV_X14_sum ⟨by first | omega | (dsimp only [rmA]; omega), by first | omega | (dsimp only [rmA]; omega)⟩ rfl (by decide) hK0 rfl rfl (Nat.le_of_ble_eq_true rfl) dX14_value_50 rfl) X hX.2.2.2.1 hX.hA rfl (fun hKSc => ?_)
    have hK0 := hKS.kp hKSc hK0
    have hKS := hKS.tr hKSc
    have hWS := hKS.2.2.2.2 rfl
    have hW := hWS.1
    refine V_astore_n X dX14_value_53 (by decide) (L' := [(2, .ref (xb x + y50.1)), (0, .ref (xb x + o)), (1, vI l1)]) rfl ?_
    refine V_aload_n X dX14_value_54 1 rfl ?_
    refine V_get (ci := 13) (N := 2) (C := RX14) (T := TX14) (o := o) (j := 1) X rfl in_X14 (by decide) hK0 (by decide) q1012 (fv_1 (i := (o + 1)) rfl rfl) dX14_value_55 ?_
    refine V_bipush X dX14_value_58 (by decide) ?_
    obtain ⟨c60, hc60, h⟩ := bind_some_eq h
    rcases c60 with ⟨e60_, s60_⟩ | y60
    · replace h := thT_l h
      obtain ⟨hm, h⟩ := lim_some h
      have hr := Option.some.inj h
      subst hr
      exact RunA.out (runV_A (ci := 11) (N := 4) (T := TX12) (As := [vI 44]) (rest := []) (o := (o + 1)) X hKS.2.1 (ConThr.toA (β := Unit) (v := fun _ => (fun _ => none, y50.2.1, y50.2.2.1, y50.2.2.2)) (con_xReader_sign y50.2.1 hW N (o + 1) (hW.blk (by decide) hK0 1 (by decide) rfl) y50.2.2.1 hWS y50.2.2.2 44 (.inl (e60_, s60_)) hc60) hm (hKS.here.kEw _ hm)) gwX14_sign_71 hdV_X12_sign ⟨by first | omega | (dsimp only [rmA]; omega), by first | omega | (dsimp only [rmA]; omega)⟩ rfl (by decide) (hW.blk (by decide) hK0 1 (by decide) rfl) rfl rfl (Nat.le_of_ble_eq_true rfl) dX14_value_60 rfl) hX (fun _ h => nomatch h) hKS
    replace h := thT_r h
    refine V_callV1 (ci := 11) (N := 4) (T := TX12) (As := [vI 44]) (rest := []) (s1 := []) (o := (o + 1)) X (con_xReader_sign y50.2.1 hW N (o + 1) (hW.blk (by decide) hK0 1 (by decide) rfl) y50.2.2.1 hWS y50.2.2.2 44 (.inr y60) hc60) gwX14_sign_71 hdV_X12_sign ⟨by first | omega | (dsimp only [rmA]; omega), by first | omega | (dsimp only [rmA]; omega)⟩ rfl (by decide) (hW.blk (by decide) hK0 1 (by decide) rfl) rfl rfl (Nat.le_of_ble_eq_true rfl) (limcc hKS.2.1) dX14_value_60 rfl rfl ?_
    refine V_aload_n X dX14_value_63 1 rfl ?_
    obtain ⟨c64, hc64, h⟩ := bind_some_eq h
    rcases c64 with ⟨e64_, s64_⟩ | y64
    · replace h := thT_l h
      have hr := Option.some.inj h
      subst hr
      exact RunA.out (runV_A (ci := 13) (N := 2) (T := TX14) (As := []) (rest := []) (o := o) X hKS.2.1 (H_sum y50.2.1 y50.2.2.1 hKS.here hK0 y60 (.inl (e64_, s64_)) hc64) gwX14_sum_33 hdV_X14_sum ⟨by first | omega | (dsimp only [rmA]; omega), by first | omega | (dsimp only [rmA]; omega)⟩ rfl (by decide) hK0 rfl rfl (Nat.le_of_ble_eq_true rfl) dX14_value_64 rfl) hX (fun _ h => nomatch h) hKS
    replace h := thT_r h
    refine RunA.back (s1 := [.ref (xb x + y64.1)]) (runV_A (ci := 13) (N := 2) (T := TX14) (As := []) (rest := []) (o := o) X hKS.2.1 (H_sum y50.2.1 y50.2.2.1 hKS.here hK0 y60 (.inr y64) hc64) gwX14_sum_33 hdV_X14_sum ⟨by first | omega | (dsimp only [rmA]; omega), by first | omega | (dsimp only [rmA]; omega)⟩ rfl (by decide) hK0 rfl rfl (Nat.le_of_ble_eq_true rfl) dX14_value_64 rfl) X hX.2.2.2.1 hX.hA rfl (fun hKSc => ?_)
    have hK0 := hKS.kp hKSc hK0
    have hKS := hKS.tr hKSc
    have hWS := hKS.2.2.2.2 rfl
    have hW := hWS.1
    refine V_astore_n X dX14_value_67 (by decide) (L' := [(3, .ref (xb x + y64.1)), (2, .ref (xb x + y50.1)), (0, .ref (xb x + o)), (1, vI l1)]) rfl ?_
    refine V_aload_n X dX14_value_68 2 rfl ?_
    refine V_get (ci := 13) (N := 2) (C := RX14) (T := TX14) (o := o) (j := 1) X rfl in_X14 (by decide) hK0 (by decide) q1012 (fv_1 (i := (o + 1)) rfl rfl) dX14_value_69 ?_
    refine V_bipush X dX14_value_72 (by decide) ?_
    obtain ⟨c74, hc74, h⟩ := bind_some_eq h
    rcases c74 with ⟨e74_, s74_⟩ | y74
    · replace h := thT_l h
      obtain ⟨hm, h⟩ := lim_some h
      have hr := Option.some.inj h
      subst hr
      exact RunA.out (runV_A (ci := 11) (N := 4) (T := TX12) (As := [vI 93]) (rest := []) (o := (o + 1)) X hKS.2.1 (ConThr.toA (β := Unit) (v := fun _ => (fun _ => none, y64.2.1, y64.2.2.1, y64.2.2.2)) (con_xReader_sign y64.2.1 hW N (o + 1) (hW.blk (by decide) hK0 1 (by decide) rfl) y64.2.2.1 hWS y64.2.2.2 93 (.inl (e74_, s74_)) hc74) hm (hKS.here.kEw _ hm)) gwX14_sign_71 hdV_X12_sign ⟨by first | omega | (dsimp only [rmA]; omega), by first | omega | (dsimp only [rmA]; omega)⟩ rfl (by decide) (hW.blk (by decide) hK0 1 (by decide) rfl) rfl rfl (Nat.le_of_ble_eq_true rfl) dX14_value_74 rfl) hX (fun _ h => nomatch h) hKS
    replace h := thT_r h
    refine V_callV1 (ci := 11) (N := 4) (T := TX12) (As := [vI 93]) (rest := []) (s1 := []) (o := (o + 1)) X (con_xReader_sign y64.2.1 hW N (o + 1) (hW.blk (by decide) hK0 1 (by decide) rfl) y64.2.2.1 hWS y64.2.2.2 93 (.inr y74) hc74) gwX14_sign_71 hdV_X12_sign ⟨by first | omega | (dsimp only [rmA]; omega), by first | omega | (dsimp only [rmA]; omega)⟩ rfl (by decide) (hW.blk (by decide) hK0 1 (by decide) rfl) rfl rfl (Nat.le_of_ble_eq_true rfl) (limcc hKS.2.1) dX14_value_74 rfl rfl ?_
    refine V_aload_n X dX14_value_77 2 rfl ?_
    refine V_get (ci := 13) (N := 2) (C := RX14) (T := TX14) (o := o) (j := 1) X rfl in_X14 (by decide) hK0 (by decide) q1012 (fv_1 (i := (o + 1)) rfl rfl) dX14_value_78 ?_
    obtain ⟨c81, hc81, h⟩ := bind_some_eq h
    refine V_callV (ci := 11) (N := 4) (T := TX12) (As := []) (rest := []) (s1 := []) (o := (o + 1)) X (con_xReader_closes y64.2.1 hW (o + 1) (hW.blk (by decide) hK0 1 (by decide) rfl) y74 c81 hc81) gwX14_closes_75 hdV_X12_closes ⟨by first | omega | (dsimp only [rmA]; omega), by first | omega | (dsimp only [rmA]; omega)⟩ rfl (by decide) (hW.blk (by decide) hK0 1 (by decide) rfl) rfl rfl (Nat.le_of_ble_eq_true rfl) (limcc hKS.2.1) dX14_value_81 rfl rfl ?_
    obtain ⟨hm, h⟩ := lim_some h
    have hz84 := hKS.1
    refine V_newA (ci := 14) (N := 3) (C := RX15) (T := TX15) X hX.2.2.2.1 hX.hA hm rfl in_X15 tyX15 tyX15_ok (by decide) (by decide) q1047 q1048 q119 df_14 dX14_value_84 ?_
    have hK0 := ku_kp (kd := 15) hKS hK0
    have hKS := hKS.upw (kd := 15) hm rfl
    have hWS := hKS.2.2.2.2 rfl
    have hW := hWS.1
    have hN84 := (ku_self : ku y64.2.1 y64.2.2.1 15 y64.2.2.1 = 15)
    refine V_dup X dX14_value_87 rfl ?_
    refine V_iload_n X dX14_value_88 3 rfl ?_
    refine V_if_eq (tgt := 97) X dX14_value_89 (by decide) h (fun h => ?_) (fun h => ?_)
    · refine V_bipush X dX14_value_97 (by decide) ?_
      refine V_aload_n X dX14_value_99 1 rfl ?_
      refine V_aload_n X dX14_value_100 0 rfl ?_
      obtain ⟨c101, hc101, h⟩ := bind_some_eq h
      refine V_callIA (As := [vI 93, .ref (xb x + y50.1), .ref (xb x + y64.1)]) (rest := [.ref (xb x + y64.2.2.1)]) (s1 := [.ref (xb x + y64.2.2.1)]) (o := y64.2.2.1) X hX.2.2.2.1 hX.hA hKS.2.1 (con_xTwo_init true y64.2.2.1 y50.1 y64.1 (ku y64.2.1 y64.2.2.1 15) (y64.2.2.1 + 1) hKS.here hN84 (newI 14 y64.2.2.1 c81) 93 c101 hc101) q1049 q1050 q119 q1051 hdI_X15 ⟨by first | omega | (dsimp only [rmA]; omega), by first | omega | (dsimp only [rmA]; omega)⟩ rfl rfl (Nat.le_of_ble_eq_true rfl) dX14_value_101 rfl rfl (fun hKSc => ?_)
      have hK0 := hKS.kp hKSc hK0
      have hN84 := hKS.kp hKSc hN84
      have hKS := hKS.tr hKSc
      have hWS := hKS.2.2.2.2 rfl
      have hW := hWS.1
      have hr := Option.some.inj h
      subst hr
      exact V_endA_a hX rfl hKS dX14_value_104
    · refine V_bipush X dX14_value_92 (by decide) ?_
      refine V_goto (tgt := 99) X dX14_value_94 (by decide) ?_
      refine V_aload_n X dX14_value_99 1 rfl ?_
      refine V_aload_n X dX14_value_100 0 rfl ?_
      obtain ⟨c101_1, hc101_1, h⟩ := bind_some_eq h
      refine V_callIA (As := [vI 91, .ref (xb x + y50.1), .ref (xb x + y64.1)]) (rest := [.ref (xb x + y64.2.2.1)]) (s1 := [.ref (xb x + y64.2.2.1)]) (o := y64.2.2.1) X hX.2.2.2.1 hX.hA hKS.2.1 (con_xTwo_init true y64.2.2.1 y50.1 y64.1 (ku y64.2.1 y64.2.2.1 15) (y64.2.2.1 + 1) hKS.here hN84 (newI 14 y64.2.2.1 c81) 91 c101_1 hc101_1) q1049 q1050 q119 q1051 hdI_X15 ⟨by first | omega | (dsimp only [rmA]; omega), by first | omega | (dsimp only [rmA]; omega)⟩ rfl rfl (Nat.le_of_ble_eq_true rfl) dX14_value_101 rfl rfl (fun hKSc => ?_)
      have hK0 := hKS.kp hKSc hK0
      have hN84 := hKS.kp hKSc hN84
      have hKS := hKS.tr hKSc
      have hWS := hKS.2.2.2.2 rfl
      have hW := hWS.1
      have hr := Option.some.inj h
      subst hr
      exact V_endA_a hX rfl hKS dX14_value_104
  unfold xLawReader_value_F at h
  show V x 4 K (sz - sz) (600 * (sz - sz)) sz g 0 [(0, .ref (xb x + o))] []
  refine V_aload_n X dX14_value_0 0 rfl ?_
  refine V_get (ci := 13) (N := 2) (C := RX14) (T := TX14) (o := o) (j := 1) X rfl in_X14 (by decide) hK0 (by decide) q1012 (fv_1 (i := (o + 1)) rfl rfl) dX14_value_1 ?_
  refine V_ldcS X ((xok_sf X).vkD 6 (by decide) q1034) dX14_value_4 ?_
  obtain ⟨c6, hc6, h⟩ := bind_some_eq h
  refine V_callVE (a := xb x + (o + 1)) (As := [.ref (x.2.2.1.2 1000 6)]) (rest := []) (s1 := [vI c6.1]) X (con_xReader_isWord K hW N (o + 1) (hW.blk (by decide) hK0 1 (by decide) rfl) (x.2.2.1.2 1000 6) (stx 6) (asS 6 (by decide)) g c6 hc6) STR.blind (str_on X ((xok_sf X).strD 6 (by decide))) gwX14_isWord_59 hdV_X12_isWord ⟨by first | omega | (dsimp only [rmA]; omega), by first | omega | (dsimp only [rmA]; omega)⟩ (fun H locs hS => recv_w (o := (o + 1)) (ci := 11) (N := 4) (T := TX12) X rfl (by decide) (hW.blk (by decide) hK0 1 (by decide) rfl) hS) rfl rfl (Nat.le_of_ble_eq_true rfl) (limcc hKS.2.1) dX14_value_6 rfl rfl ?_
  refine V_istore_n X dX14_value_9 (by decide) (L' := [(1, vI c6.1), (0, .ref (xb x + o))]) rfl ?_
  refine V_iload_n X dX14_value_10 0 rfl ?_
  refine V_if_ne (tgt := 26) X dX14_value_11 (by decide) h (fun h => ?_) (fun h => ?_)
  · exact V_sub [1, 0] rfl (J26 _ _ hKS h)
  · refine V_aload_n X dX14_value_14 1 rfl ?_
    refine V_get (ci := 13) (N := 2) (C := RX14) (T := TX14) (o := o) (j := 1) X rfl in_X14 (by decide) hK0 (by decide) q1012 (fv_1 (i := (o + 1)) rfl rfl) dX14_value_15 ?_
    refine V_ldcS X ((xok_sf X).vkD 7 (by decide) q1036) dX14_value_18 ?_
    obtain ⟨c20, hc20, h⟩ := bind_some_eq h
    refine V_callVE (a := xb x + (o + 1)) (As := [.ref (x.2.2.1.2 1000 7)]) (rest := []) (s1 := [vI c20.1]) X (con_xReader_isWord K hW N (o + 1) (hW.blk (by decide) hK0 1 (by decide) rfl) (x.2.2.1.2 1000 7) (stx 7) (asS 7 (by decide)) c6.2 c20 hc20) STR.blind (str_on X ((xok_sf X).strD 7 (by decide))) gwX14_isWord_59 hdV_X12_isWord ⟨by first | omega | (dsimp only [rmA]; omega), by first | omega | (dsimp only [rmA]; omega)⟩ (fun H locs hS => recv_w (o := (o + 1)) (ci := 11) (N := 4) (T := TX12) X rfl (by decide) (hW.blk (by decide) hK0 1 (by decide) rfl) hS) rfl rfl (Nat.le_of_ble_eq_true rfl) (limcc hKS.2.1) dX14_value_20 rfl rfl ?_
    refine V_if_eq (tgt := 105) X dX14_value_23 (by decide) h (fun h => ?_) (fun h => ?_)
    · refine V_aload_n X dX14_value_105 1 rfl ?_
      refine V_get (ci := 13) (N := 2) (C := RX14) (T := TX14) (o := o) (j := 1) X rfl in_X14 (by decide) hK0 (by decide) q1012 (fv_1 (i := (o + 1)) rfl rfl) dX14_value_106 ?_
      obtain ⟨c109, hc109, h⟩ := bind_some_eq h
      refine V_callV (ci := 11) (N := 4) (T := TX12) (As := []) (rest := []) (s1 := [vI c109.1]) (o := (o + 1)) X (con_xReader_now K hW N (o + 1) (hW.blk (by decide) hK0 1 (by decide) rfl) c20.2 c109 hc109) gwX14_now_78 hdV_X12_now ⟨by first | omega | (dsimp only [rmA]; omega), by first | omega | (dsimp only [rmA]; omega)⟩ rfl (by decide) (hW.blk (by decide) hK0 1 (by decide) rfl) rfl rfl (Nat.le_of_ble_eq_true rfl) (limcc hKS.2.1) dX14_value_109 rfl rfl ?_
      refine V_bipush X dX14_value_112 (by decide) ?_
      refine V_icmp_ne (tgt := 156) X dX14_value_114 (by decide) h (fun h => ?_) (fun h => ?_)
      · refine V_aload_n X dX14_value_156 1 rfl ?_
        refine V_get (ci := 13) (N := 2) (C := RX14) (T := TX14) (o := o) (j := 1) X rfl in_X14 (by decide) hK0 (by decide) q1012 (fv_1 (i := (o + 1)) rfl rfl) dX14_value_157 ?_
        refine V_aload_n X dX14_value_160 1 rfl ?_
        refine V_get (ci := 13) (N := 2) (C := RX14) (T := TX14) (o := o) (j := 0) X rfl in_X14 (by decide) hK0 (by decide) q1011 (fv_1 (i := (o + 2)) rfl rfl) dX14_value_161 ?_
        obtain ⟨c164, hc164, h⟩ := bind_some_eq h
        refine V_callV (ci := 11) (N := 4) (T := TX12) (As := [.ref (xb x + (o + 2))]) (rest := []) (s1 := [vI c164.1]) (o := (o + 1)) X (con_xReader_which K hW N (o + 1) (hW.blk (by decide) hK0 1 (by decide) rfl) (o + 2) 1 ⟨(hW.blk (by decide) hK0 2 (by decide) rfl), (by decide)⟩ c109.2 c164 hc164) gwX14_which_82 hdV_X12_which ⟨by first | omega | (dsimp only [rmA]; omega), by first | omega | (dsimp only [rmA]; omega)⟩ rfl (by decide) (hW.blk (by decide) hK0 1 (by decide) rfl) rfl rfl (Nat.le_of_ble_eq_true rfl) (limcc hKS.2.1) dX14_value_164 rfl rfl ?_
        refine V_istore_n X dX14_value_167 (by decide) (L' := [(2, vI c164.1), (1, vI c6.1), (0, .ref (xb x + o))]) rfl ?_
        refine V_iload_n X dX14_value_168 0 rfl ?_
        refine V_iconst X dX14_value_169 ?_
        refine V_icmp_ne (tgt := 192) X dX14_value_170 (by decide) h (fun h => ?_) (fun h => ?_)
        · refine V_aload_n X dX14_value_192 2 rfl ?_
          refine V_get (ci := 13) (N := 2) (C := RX14) (T := TX14) (o := o) (j := 1) X rfl in_X14 (by decide) hK0 (by decide) q1012 (fv_1 (i := (o + 1)) rfl rfl) dX14_value_193 ?_
          obtain ⟨c196, hc196, h⟩ := bind_some_eq h
          refine V_callV (ci := 11) (N := 4) (T := TX12) (As := []) (rest := []) (s1 := []) (o := (o + 1)) X (con_xReader_skipsWord K hW N (o + 1) (hW.blk (by decide) hK0 1 (by decide) rfl) c164.2 c196 hc196) gwX14_skipsWord_68 hdV_X12_skipsWord ⟨by first | omega | (dsimp only [rmA]; omega), by first | omega | (dsimp only [rmA]; omega)⟩ rfl (by decide) (hW.blk (by decide) hK0 1 (by decide) rfl) rfl rfl (Nat.le_of_ble_eq_true rfl) (limcc hKS.2.1) dX14_value_196 rfl rfl ?_
          obtain ⟨hm, h⟩ := lim_some h
          have hz199 := hKS.1
          refine V_newA (ci := 16) (N := 1) (C := RX17) (T := TX17) X hX.2.2.2.1 hX.hA hm rfl in_X17 tyX17 tyX17_ok (by decide) (by decide) q1076 q1077 q121 df_16 dX14_value_199 ?_
          have hK0 := ku_kp (kd := 17) hKS hK0
          have hKS := hKS.upw (kd := 17) hm rfl
          have hWS := hKS.2.2.2.2 rfl
          have hW := hWS.1
          have hN199 := (ku_self : ku K sz 17 sz = 17)
          refine V_dup X dX14_value_202 rfl ?_
          refine V_iload_n X dX14_value_203 0 rfl ?_
          obtain ⟨c204, hc204, h⟩ := bind_some_eq h
          refine V_callIA (As := [vI c164.1]) (rest := [.ref (xb x + sz)]) (s1 := [.ref (xb x + sz)]) (o := sz) X hX.2.2.2.1 hX.hA hKS.2.1 (con_xKnown_init true sz (ku K sz 17) (sz + 1) hKS.here hN199 (newI 16 sz c196) c164.1 c204 hc204) q1078 q1079 q121 q1080 hdI_X17 ⟨by first | omega | (dsimp only [rmA]; omega), by first | omega | (dsimp only [rmA]; omega)⟩ rfl rfl (Nat.le_of_ble_eq_true rfl) dX14_value_204 rfl rfl (fun hKSc => ?_)
          have hK0 := hKS.kp hKSc hK0
          have hN199 := hKS.kp hKSc hN199
          have hKS := hKS.tr hKSc
          have hWS := hKS.2.2.2.2 rfl
          have hW := hWS.1
          have hr := Option.some.inj h
          subst hr
          exact V_endA_a hX rfl hKS dX14_value_207
        · obtain ⟨hm, h⟩ := lim_some h
          have hz173 := hKS.1
          refine V_newA (ci := 15) (N := 1) (C := RX16) (T := TX16) X hX.2.2.2.1 hX.hA hm rfl in_X16 tyX16 tyX16_ok (by decide) (by decide) q1065 q1066 q120 df_15 dX14_value_173 ?_
          have hK0 := ku_kp (kd := 16) hKS hK0
          have hKS := hKS.upw (kd := 16) hm rfl
          have hWS := hKS.2.2.2.2 rfl
          have hW := hWS.1
          have hN173 := (ku_self : ku K sz 16 sz = 16)
          refine V_dup X dX14_value_176 rfl ?_
          refine V_aload_n X dX14_value_177 2 rfl ?_
          refine V_get (ci := 13) (N := 2) (C := RX14) (T := TX14) (o := o) (j := 1) X rfl in_X14 (by decide) hK0 (by decide) q1012 (fv_1 (i := (o + 1)) rfl rfl) dX14_value_178 ?_
          refine V_iconst X dX14_value_181 ?_
          refine V_sipush X dX14_value_182 (by decide) ?_
          obtain ⟨c185, hc185, h⟩ := bind_some_eq h
          rcases c185 with ⟨e185_, s185_⟩ | y185
          · replace h := thT_l h
            obtain ⟨hm, h⟩ := lim_some h
            have hr := Option.some.inj h
            subst hr
            exact RunA.out (runV_A (ci := 11) (N := 4) (T := TX12) (As := [vI 0, vI 999]) (rest := [.ref (xb x + sz), .ref (xb x + sz)]) (o := (o + 1)) X hKS.2.1 (ConThr.toA (β := Unit) (v := fun _ => (fun _ => none, (ku K sz 16), (sz + 1), (newI 15 sz c164.2))) (con_xReader_number (ku K sz 16) hW N (o + 1) (hW.blk (by decide) hK0 1 (by decide) rfl) (sz + 1) hWS (newI 15 sz c164.2) 0 999 (.inl (e185_, s185_)) hc185) hm (hKS.here.kEw _ hm)) gwX14_number_88 hdV_X12_number ⟨by first | omega | (dsimp only [rmA]; omega), by first | omega | (dsimp only [rmA]; omega)⟩ rfl (by decide) (hW.blk (by decide) hK0 1 (by decide) rfl) rfl rfl (Nat.le_of_ble_eq_true rfl) dX14_value_185 rfl) hX (fun _ h => nomatch h) hKS
          replace h := thT_r h
          refine V_callV1 (ci := 11) (N := 4) (T := TX12) (As := [vI 0, vI 999]) (rest := [.ref (xb x + sz), .ref (xb x + sz)]) (s1 := [vI y185.1, .ref (xb x + sz), .ref (xb x + sz)]) (o := (o + 1)) X (con_xReader_number (ku K sz 16) hW N (o + 1) (hW.blk (by decide) hK0 1 (by decide) rfl) (sz + 1) hWS (newI 15 sz c164.2) 0 999 (.inr y185) hc185) gwX14_number_88 hdV_X12_number ⟨by first | omega | (dsimp only [rmA]; omega), by first | omega | (dsimp only [rmA]; omega)⟩ rfl (by decide) (hW.blk (by decide) hK0 1 (by decide) rfl) rfl rfl (Nat.le_of_ble_eq_true rfl) (limcc hKS.2.1) dX14_value_185 rfl rfl ?_
          obtain ⟨c188, hc188, h⟩ := bind_some_eq h
          refine V_callIA (As := [vI y185.1]) (rest := [.ref (xb x + sz)]) (s1 := [.ref (xb x + sz)]) (o := sz) X hX.2.2.2.1 hX.hA hKS.2.1 (con_xAmount_init true sz (ku K sz 16) (sz + 1) hKS.here hN173 y185.2 y185.1 c188 hc188) q1068 q1069 q120 q1070 hdI_X16 ⟨by first | omega | (dsimp only [rmA]; omega), by first | omega | (dsimp only [rmA]; omega)⟩ rfl rfl (Nat.le_of_ble_eq_true rfl) dX14_value_188 rfl rfl (fun hKSc => ?_)
          have hK0 := hKS.kp hKSc hK0
          have hN173 := hKS.kp hKSc hN173
          have hKS := hKS.tr hKSc
          have hWS := hKS.2.2.2.2 rfl
          have hW := hWS.1
          have hr := Option.some.inj h
          subst hr
          exact V_endA_a hX rfl hKS dX14_value_191
      · refine V_aload_n X dX14_value_117 1 rfl ?_
        refine V_get (ci := 13) (N := 2) (C := RX14) (T := TX14) (o := o) (j := 1) X rfl in_X14 (by decide) hK0 (by decide) q1012 (fv_1 (i := (o + 1)) rfl rfl) dX14_value_118 ?_
        obtain ⟨c121, hc121, h⟩ := bind_some_eq h
        rcases c121 with ⟨e121_, s121_⟩ | y121
        · replace h := thT_l h
          obtain ⟨hm, h⟩ := lim_some h
          have hr := Option.some.inj h
          subst hr
          exact RunA.out (runV_A (ci := 11) (N := 4) (T := TX12) (As := []) (rest := []) (o := (o + 1)) X hKS.2.1 (ConThr.toA (β := Unit) (v := fun _ => (fun _ => none, K, sz, c109.2)) (con_xReader_opens K hW N (o + 1) (hW.blk (by decide) hK0 1 (by decide) rfl) sz hWS c109.2 (.inl (e121_, s121_)) hc121) hm (hKS.here.kEw _ hm)) gwX14_opens_65 hdV_X12_opens ⟨by first | omega | (dsimp only [rmA]; omega), by first | omega | (dsimp only [rmA]; omega)⟩ rfl (by decide) (hW.blk (by decide) hK0 1 (by decide) rfl) rfl rfl (Nat.le_of_ble_eq_true rfl) dX14_value_121 rfl) hX (fun _ h => nomatch h) hKS
        replace h := thT_r h
        refine V_callV1 (ci := 11) (N := 4) (T := TX12) (As := []) (rest := []) (s1 := []) (o := (o + 1)) X (con_xReader_opens K hW N (o + 1) (hW.blk (by decide) hK0 1 (by decide) rfl) sz hWS c109.2 (.inr y121) hc121) gwX14_opens_65 hdV_X12_opens ⟨by first | omega | (dsimp only [rmA]; omega), by first | omega | (dsimp only [rmA]; omega)⟩ rfl (by decide) (hW.blk (by decide) hK0 1 (by decide) rfl) rfl rfl (Nat.le_of_ble_eq_true rfl) (limcc hKS.2.1) dX14_value_121 rfl rfl ?_
        refine V_aload_n X dX14_value_124 1 rfl ?_
        refine V_get (ci := 13) (N := 2) (C := RX14) (T := TX14) (o := o) (j := 1) X rfl in_X14 (by decide) hK0 (by decide) q1012 (fv_1 (i := (o + 1)) rfl rfl) dX14_value_125 ?_
        refine V_bipush X dX14_value_128 (by decide) ?_
        obtain ⟨c130, hc130, h⟩ := bind_some_eq h
        rcases c130 with ⟨e130_, s130_⟩ | y130
        · replace h := thT_l h
          obtain ⟨hm, h⟩ := lim_some h
          have hr := Option.some.inj h
          subst hr
          exact RunA.out (runV_A (ci := 11) (N := 4) (T := TX12) (As := [vI 40]) (rest := []) (o := (o + 1)) X hKS.2.1 (ConThr.toA (β := Unit) (v := fun _ => (fun _ => none, K, sz, y121)) (con_xReader_sign K hW N (o + 1) (hW.blk (by decide) hK0 1 (by decide) rfl) sz hWS y121 40 (.inl (e130_, s130_)) hc130) hm (hKS.here.kEw _ hm)) gwX14_sign_71 hdV_X12_sign ⟨by first | omega | (dsimp only [rmA]; omega), by first | omega | (dsimp only [rmA]; omega)⟩ rfl (by decide) (hW.blk (by decide) hK0 1 (by decide) rfl) rfl rfl (Nat.le_of_ble_eq_true rfl) dX14_value_130 rfl) hX (fun _ h => nomatch h) hKS
        replace h := thT_r h
        refine V_callV1 (ci := 11) (N := 4) (T := TX12) (As := [vI 40]) (rest := []) (s1 := []) (o := (o + 1)) X (con_xReader_sign K hW N (o + 1) (hW.blk (by decide) hK0 1 (by decide) rfl) sz hWS y121 40 (.inr y130) hc130) gwX14_sign_71 hdV_X12_sign ⟨by first | omega | (dsimp only [rmA]; omega), by first | omega | (dsimp only [rmA]; omega)⟩ rfl (by decide) (hW.blk (by decide) hK0 1 (by decide) rfl) rfl rfl (Nat.le_of_ble_eq_true rfl) (limcc hKS.2.1) dX14_value_130 rfl rfl ?_
        refine V_aload_n X dX14_value_133 1 rfl ?_
        obtain ⟨c134, hc134, h⟩ := bind_some_eq h
        rcases c134 with ⟨e134_, s134_⟩ | y134
        · replace h := thT_l h
          have hr := Option.some.inj h
          subst hr
          exact RunA.out (runV_A (ci := 13) (N := 2) (T := TX14) (As := []) (rest := []) (o := o) X hKS.2.1 (H_sum K sz hKS.here hK0 y130 (.inl (e134_, s134_)) hc134) gwX14_sum_33 hdV_X14_sum ⟨by first | omega | (dsimp only [rmA]; omega), by first | omega | (dsimp only [rmA]; omega)⟩ rfl (by decide) hK0 rfl rfl (Nat.le_of_ble_eq_true rfl) dX14_value_134 rfl) hX (fun _ h => nomatch h) hKS
        replace h := thT_r h
        refine RunA.back (s1 := [.ref (xb x + y134.1)]) (runV_A (ci := 13) (N := 2) (T := TX14) (As := []) (rest := []) (o := o) X hKS.2.1 (H_sum K sz hKS.here hK0 y130 (.inr y134) hc134) gwX14_sum_33 hdV_X14_sum ⟨by first | omega | (dsimp only [rmA]; omega), by first | omega | (dsimp only [rmA]; omega)⟩ rfl (by decide) hK0 rfl rfl (Nat.le_of_ble_eq_true rfl) dX14_value_134 rfl) X hX.2.2.2.1 hX.hA rfl (fun hKSc => ?_)
        have hK0 := hKS.kp hKSc hK0
        have hKS := hKS.tr hKSc
        have hWS := hKS.2.2.2.2 rfl
        have hW := hWS.1
        refine V_astore_n X dX14_value_137 (by decide) (L' := [(2, .ref (xb x + y134.1)), (1, vI c6.1), (0, .ref (xb x + o))]) rfl ?_
        refine V_aload_n X dX14_value_138 2 rfl ?_
        refine V_get (ci := 13) (N := 2) (C := RX14) (T := TX14) (o := o) (j := 1) X rfl in_X14 (by decide) hK0 (by decide) q1012 (fv_1 (i := (o + 1)) rfl rfl) dX14_value_139 ?_
        refine V_bipush X dX14_value_142 (by decide) ?_
        obtain ⟨c144, hc144, h⟩ := bind_some_eq h
        rcases c144 with ⟨e144_, s144_⟩ | y144
        · replace h := thT_l h
          obtain ⟨hm, h⟩ := lim_some h
          have hr := Option.some.inj h
          subst hr
          exact RunA.out (runV_A (ci := 11) (N := 4) (T := TX12) (As := [vI 41]) (rest := []) (o := (o + 1)) X hKS.2.1 (ConThr.toA (β := Unit) (v := fun _ => (fun _ => none, y134.2.1, y134.2.2.1, y134.2.2.2)) (con_xReader_sign y134.2.1 hW N (o + 1) (hW.blk (by decide) hK0 1 (by decide) rfl) y134.2.2.1 hWS y134.2.2.2 41 (.inl (e144_, s144_)) hc144) hm (hKS.here.kEw _ hm)) gwX14_sign_71 hdV_X12_sign ⟨by first | omega | (dsimp only [rmA]; omega), by first | omega | (dsimp only [rmA]; omega)⟩ rfl (by decide) (hW.blk (by decide) hK0 1 (by decide) rfl) rfl rfl (Nat.le_of_ble_eq_true rfl) dX14_value_144 rfl) hX (fun _ h => nomatch h) hKS
        replace h := thT_r h
        refine V_callV1 (ci := 11) (N := 4) (T := TX12) (As := [vI 41]) (rest := []) (s1 := []) (o := (o + 1)) X (con_xReader_sign y134.2.1 hW N (o + 1) (hW.blk (by decide) hK0 1 (by decide) rfl) y134.2.2.1 hWS y134.2.2.2 41 (.inr y144) hc144) gwX14_sign_71 hdV_X12_sign ⟨by first | omega | (dsimp only [rmA]; omega), by first | omega | (dsimp only [rmA]; omega)⟩ rfl (by decide) (hW.blk (by decide) hK0 1 (by decide) rfl) rfl rfl (Nat.le_of_ble_eq_true rfl) (limcc hKS.2.1) dX14_value_144 rfl rfl ?_
        refine V_aload_n X dX14_value_147 2 rfl ?_
        refine V_get (ci := 13) (N := 2) (C := RX14) (T := TX14) (o := o) (j := 1) X rfl in_X14 (by decide) hK0 (by decide) q1012 (fv_1 (i := (o + 1)) rfl rfl) dX14_value_148 ?_
        obtain ⟨c151, hc151, h⟩ := bind_some_eq h
        refine V_callV (ci := 11) (N := 4) (T := TX12) (As := []) (rest := []) (s1 := []) (o := (o + 1)) X (con_xReader_closes y134.2.1 hW (o + 1) (hW.blk (by decide) hK0 1 (by decide) rfl) y144 c151 hc151) gwX14_closes_75 hdV_X12_closes ⟨by first | omega | (dsimp only [rmA]; omega), by first | omega | (dsimp only [rmA]; omega)⟩ rfl (by decide) (hW.blk (by decide) hK0 1 (by decide) rfl) rfl rfl (Nat.le_of_ble_eq_true rfl) (limcc hKS.2.1) dX14_value_151 rfl rfl ?_
        refine V_aload_n X dX14_value_154 0 rfl ?_
        have hr := Option.some.inj h
        subst hr
        exact V_endA_a hX rfl hKS dX14_value_155
    · exact V_sub [1, 0] rfl (J26 _ _ hKS h)
set_option maxHeartbeats 4000000 in
theorem con_xLawReader_product_F (N : Nat) (o : Nat) (fr lo : Nat) (R_value : (Nat → Nat) → Nat → GS → Option ((Nat × S3) ⊕ (Nat × S3))) (H_value : ∀ (K : Nat → Nat) (sz : Nat) (hKS : KS true K sz K sz) (hK0 : K o = 14) (g : GS) (r : ((Nat × S3) ⊕ (Nat × S3))), R_value K sz g = some r → ConA true sz yX14_value cX14_value 4 (some (.object "RainWheel$Term")) fr lo K (fun b => [.ref (b + o)]) g (fun r => ((fun b => some (.ref (b + r.1))), r.2)) r) (K : Nat → Nat) (sz : Nat) (hKS : KS true K sz K sz) (hK0 : K o = 14) (g : GS) (r : ((Nat × S3) ⊕ (Nat × S3))) (h : xLawReader_product_F N R_value o K sz g = some r) : ConA true sz yX14_product cX14_product 2 (some (.object "RainWheel$Term")) (fr + 8) (lo + 220) K (fun b => [.ref (b + o)]) g (fun r => ((fun b => some (.ref (b + r.1))), r.2)) r := by
  refine ConA.of RX14 (by decide) rfl (fun b => Nat.le_of_ble_eq_true rfl) (fun x hX hnm => ?_)
  have X := hX.1
  have h0K := hKS.2.2.1
  have hK0e := hK0
  have hWS := hKS.2.2.2.2 rfl
  have hW := hWS.1
  have LL5 : ∀  (n : Nat) (s : (S3 × Nat)) (e : ((Nat × S3) ⊕ (Nat × S3))), loopN (fun s => xLawReader_product_F_b5 N R_value o s.1 s.2) n s = some e → (e = r) → KS true K sz s.1.1 s.1.2.1 → V x 2 s.1.1 (s.1.2.1 - sz) (600 * (s.1.2.1 - sz)) s.1.2.1 s.1.2.2 5 [(0, .ref (xb x + o)), (1, .ref (xb x + s.2))] [] := by
    intro  n s e
    refine loop_walk (P := fun s => KS true K sz s.1.1 s.1.2.1 → V x 2 s.1.1 (s.1.2.1 - sz) (600 * (s.1.2.1 - sz)) s.1.2.1 s.1.2.2 5 [(0, .ref (xb x + o)), (1, .ref (xb x + s.2))] []) (E := fun e => e = r) ?_ n s e
    clear e s n
    rintro ⟨g, l1⟩ qv5 h hc5 he5
    intro hKS
    have hWS := hKS.2.2.2.2 rfl
    have hW := hWS.1
    have hK0 := hKS.keep h0K hK0e
    replace h : xLawReader_product_F_b5 N R_value o g l1 = some qv5 := h
    unfold xLawReader_product_F_b5 at h
    show V x 2 g.1 (g.2.1 - sz) (600 * (g.2.1 - sz)) g.2.1 g.2.2 5 [(0, .ref (xb x + o)), (1, .ref (xb x + l1))] []
    refine V_aload_n X dX14_product_5 0 rfl ?_
    refine V_get (ci := 13) (N := 2) (C := RX14) (T := TX14) (o := o) (j := 1) X rfl in_X14 (by decide) hK0 (by decide) q1012 (fv_1 (i := (o + 1)) rfl rfl) dX14_product_6 ?_
    refine V_bipush X dX14_product_9 (by decide) ?_
    obtain ⟨c11, hc11, h⟩ := bind_some_eq h
    refine V_callV (ci := 11) (N := 4) (T := TX12) (As := [vI 42]) (rest := []) (s1 := [vI c11.1]) (o := (o + 1)) X (con_xReader_takesSign g.1 hW N (o + 1) (hW.blk (by decide) hK0 1 (by decide) rfl) g.2.2 42 c11 hc11) gwX14_takesSign_45 hdV_X12_takesSign ⟨by first | omega | (dsimp only [rmA]; omega), by first | omega | (dsimp only [rmA]; omega)⟩ rfl (by decide) (hW.blk (by decide) hK0 1 (by decide) rfl) rfl rfl (Nat.le_of_ble_eq_true rfl) (limcc hKS.2.1) dX14_product_11 rfl rfl ?_
    refine V_if_eq (tgt := 35) X dX14_product_14 (by decide) h (fun h => ?_) (fun h => ?_)
    · refine V_aload_n X dX14_product_35 0 rfl ?_
      refine V_get (ci := 13) (N := 2) (C := RX14) (T := TX14) (o := o) (j := 1) X rfl in_X14 (by decide) hK0 (by decide) q1012 (fv_1 (i := (o + 1)) rfl rfl) dX14_product_36 ?_
      refine V_bipush X dX14_product_39 (by decide) ?_
      obtain ⟨c41, hc41, h⟩ := bind_some_eq h
      refine V_callV (ci := 11) (N := 4) (T := TX12) (As := [vI 47]) (rest := []) (s1 := [vI c41.1]) (o := (o + 1)) X (con_xReader_takesSign g.1 hW N (o + 1) (hW.blk (by decide) hK0 1 (by decide) rfl) c11.2 47 c41 hc41) gwX14_takesSign_45 hdV_X12_takesSign ⟨by first | omega | (dsimp only [rmA]; omega), by first | omega | (dsimp only [rmA]; omega)⟩ rfl (by decide) (hW.blk (by decide) hK0 1 (by decide) rfl) rfl rfl (Nat.le_of_ble_eq_true rfl) (limcc hKS.2.1) dX14_product_41 rfl rfl ?_
      refine V_if_eq (tgt := 65) X dX14_product_44 (by decide) h (fun h => ?_) (fun h => ?_)
      · obtain ⟨e1, h, e1q⟩ := outR_some h
        replace h := h.trans (congrArg some (he5 _ e1q))
        refine V_aload_n X dX14_product_65 1 rfl ?_
        have hr := Option.some.inj h
        subst hr
        exact V_endA_a hX rfl hKS dX14_product_66
      · obtain ⟨hm, h⟩ := lim_some h
        have hz47 := hKS.1
        refine V_newA (ci := 14) (N := 3) (C := RX15) (T := TX15) X hX.2.2.2.1 hX.hA hm rfl in_X15 tyX15 tyX15_ok (by decide) (by decide) q1047 q1048 q119 df_14 dX14_product_47 ?_
        have hK0 := ku_kp (kd := 15) hKS hK0
        have hKS := hKS.upw (kd := 15) hm rfl
        have hWS := hKS.2.2.2.2 rfl
        have hW := hWS.1
        have hN47 := (ku_self : ku g.1 g.2.1 15 g.2.1 = 15)
        refine V_dup X dX14_product_50 rfl ?_
        refine V_bipush X dX14_product_51 (by decide) ?_
        refine V_aload_n X dX14_product_53 1 rfl ?_
        refine V_aload_n X dX14_product_54 0 rfl ?_
        obtain ⟨c55, hc55, h⟩ := bind_some_eq h
        rcases c55 with ⟨e55_, s55_⟩ | y55
        · replace h := thT_l h
          obtain ⟨e2, h, e2q⟩ := outR_some h
          replace h := h.trans (congrArg some (he5 _ e2q))
          have hr := Option.some.inj h
          subst hr
          exact RunA.out (runV_A (ci := 13) (N := 2) (T := TX14) (As := []) (rest := [.ref (xb x + l1), vI 47, .ref (xb x + g.2.1), .ref (xb x + g.2.1)]) (o := o) X hKS.2.1 (H_value (ku g.1 g.2.1 15) (g.2.1 + 1) hKS.here hK0 (newI 14 g.2.1 c41.2) (.inl (e55_, s55_)) hc55) gwX14_value_54 hdV_X14_value ⟨by first | omega | (dsimp only [rmA]; omega), by first | omega | (dsimp only [rmA]; omega)⟩ rfl (by decide) hK0 rfl rfl (Nat.le_of_ble_eq_true rfl) dX14_product_55 rfl) hX (fun _ h => nomatch h) hKS
        replace h := thT_r h
        refine RunA.back (s1 := [.ref (xb x + y55.1), .ref (xb x + l1), vI 47, .ref (xb x + g.2.1), .ref (xb x + g.2.1)]) (runV_A (ci := 13) (N := 2) (T := TX14) (As := []) (rest := [.ref (xb x + l1), vI 47, .ref (xb x + g.2.1), .ref (xb x + g.2.1)]) (o := o) X hKS.2.1 (H_value (ku g.1 g.2.1 15) (g.2.1 + 1) hKS.here hK0 (newI 14 g.2.1 c41.2) (.inr y55) hc55) gwX14_value_54 hdV_X14_value ⟨by first | omega | (dsimp only [rmA]; omega), by first | omega | (dsimp only [rmA]; omega)⟩ rfl (by decide) hK0 rfl rfl (Nat.le_of_ble_eq_true rfl) dX14_product_55 rfl) X hX.2.2.2.1 hX.hA rfl (fun hKSc => ?_)
        have hK0 := hKS.kp hKSc hK0
        have hN47 := hKS.kp hKSc hN47
        have hKS := hKS.tr hKSc
        have hWS := hKS.2.2.2.2 rfl
        have hW := hWS.1
        obtain ⟨c58, hc58, h⟩ := bind_some_eq h
        refine V_callIA (As := [vI 47, .ref (xb x + l1), .ref (xb x + y55.1)]) (rest := [.ref (xb x + g.2.1)]) (s1 := [.ref (xb x + g.2.1)]) (o := g.2.1) X hX.2.2.2.1 hX.hA hKS.2.1 (con_xTwo_init true g.2.1 l1 y55.1 y55.2.1 y55.2.2.1 hKS.here hN47 y55.2.2.2 47 c58 hc58) q1049 q1050 q119 q1051 hdI_X15 ⟨by first | omega | (dsimp only [rmA]; omega), by first | omega | (dsimp only [rmA]; omega)⟩ rfl rfl (Nat.le_of_ble_eq_true rfl) dX14_product_58 rfl rfl (fun hKSc => ?_)
        have hK0 := hKS.kp hKSc hK0
        have hN47 := hKS.kp hKSc hN47
        have hKS := hKS.tr hKSc
        have hWS := hKS.2.2.2.2 rfl
        have hW := hWS.1
        refine V_astore_n X dX14_product_61 (by decide) (L' := [(1, .ref (xb x + g.2.1)), (0, .ref (xb x + o))]) rfl ?_
        refine V_goto (tgt := 5) X dX14_product_62 (by decide) ?_
        exact V_sub [1, 0] rfl (hc5 _ (Option.some.inj h).symm hKS)
    · obtain ⟨hm, h⟩ := lim_some h
      have hz17 := hKS.1
      refine V_newA (ci := 14) (N := 3) (C := RX15) (T := TX15) X hX.2.2.2.1 hX.hA hm rfl in_X15 tyX15 tyX15_ok (by decide) (by decide) q1047 q1048 q119 df_14 dX14_product_17 ?_
      have hK0 := ku_kp (kd := 15) hKS hK0
      have hKS := hKS.upw (kd := 15) hm rfl
      have hWS := hKS.2.2.2.2 rfl
      have hW := hWS.1
      have hN17 := (ku_self : ku g.1 g.2.1 15 g.2.1 = 15)
      refine V_dup X dX14_product_20 rfl ?_
      refine V_bipush X dX14_product_21 (by decide) ?_
      refine V_aload_n X dX14_product_23 1 rfl ?_
      refine V_aload_n X dX14_product_24 0 rfl ?_
      obtain ⟨c25, hc25, h⟩ := bind_some_eq h
      rcases c25 with ⟨e25_, s25_⟩ | y25
      · replace h := thT_l h
        obtain ⟨e3, h, e3q⟩ := outR_some h
        replace h := h.trans (congrArg some (he5 _ e3q))
        have hr := Option.some.inj h
        subst hr
        exact RunA.out (runV_A (ci := 13) (N := 2) (T := TX14) (As := []) (rest := [.ref (xb x + l1), vI 42, .ref (xb x + g.2.1), .ref (xb x + g.2.1)]) (o := o) X hKS.2.1 (H_value (ku g.1 g.2.1 15) (g.2.1 + 1) hKS.here hK0 (newI 14 g.2.1 c11.2) (.inl (e25_, s25_)) hc25) gwX14_value_54 hdV_X14_value ⟨by first | omega | (dsimp only [rmA]; omega), by first | omega | (dsimp only [rmA]; omega)⟩ rfl (by decide) hK0 rfl rfl (Nat.le_of_ble_eq_true rfl) dX14_product_25 rfl) hX (fun _ h => nomatch h) hKS
      replace h := thT_r h
      refine RunA.back (s1 := [.ref (xb x + y25.1), .ref (xb x + l1), vI 42, .ref (xb x + g.2.1), .ref (xb x + g.2.1)]) (runV_A (ci := 13) (N := 2) (T := TX14) (As := []) (rest := [.ref (xb x + l1), vI 42, .ref (xb x + g.2.1), .ref (xb x + g.2.1)]) (o := o) X hKS.2.1 (H_value (ku g.1 g.2.1 15) (g.2.1 + 1) hKS.here hK0 (newI 14 g.2.1 c11.2) (.inr y25) hc25) gwX14_value_54 hdV_X14_value ⟨by first | omega | (dsimp only [rmA]; omega), by first | omega | (dsimp only [rmA]; omega)⟩ rfl (by decide) hK0 rfl rfl (Nat.le_of_ble_eq_true rfl) dX14_product_25 rfl) X hX.2.2.2.1 hX.hA rfl (fun hKSc => ?_)
      have hK0 := hKS.kp hKSc hK0
      have hN17 := hKS.kp hKSc hN17
      have hKS := hKS.tr hKSc
      have hWS := hKS.2.2.2.2 rfl
      have hW := hWS.1
      obtain ⟨c28, hc28, h⟩ := bind_some_eq h
      refine V_callIA (As := [vI 42, .ref (xb x + l1), .ref (xb x + y25.1)]) (rest := [.ref (xb x + g.2.1)]) (s1 := [.ref (xb x + g.2.1)]) (o := g.2.1) X hX.2.2.2.1 hX.hA hKS.2.1 (con_xTwo_init true g.2.1 l1 y25.1 y25.2.1 y25.2.2.1 hKS.here hN17 y25.2.2.2 42 c28 hc28) q1049 q1050 q119 q1051 hdI_X15 ⟨by first | omega | (dsimp only [rmA]; omega), by first | omega | (dsimp only [rmA]; omega)⟩ rfl rfl (Nat.le_of_ble_eq_true rfl) dX14_product_28 rfl rfl (fun hKSc => ?_)
      have hK0 := hKS.kp hKSc hK0
      have hN17 := hKS.kp hKSc hN17
      have hKS := hKS.tr hKSc
      have hWS := hKS.2.2.2.2 rfl
      have hW := hWS.1
      refine V_astore_n X dX14_product_31 (by decide) (L' := [(1, .ref (xb x + g.2.1)), (0, .ref (xb x + o))]) rfl ?_
      refine V_goto (tgt := 5) X dX14_product_32 (by decide) ?_
      exact V_sub [1, 0] rfl (hc5 _ (Option.some.inj h).symm hKS)
  unfold xLawReader_product_F at h
  show V x 2 K (sz - sz) (600 * (sz - sz)) sz g 0 [(0, .ref (xb x + o))] []
  refine V_aload_n X dX14_product_0 0 rfl ?_
  obtain ⟨c1, hc1, h⟩ := bind_some_eq h
  rcases c1 with ⟨e1_, s1_⟩ | y1
  · replace h := thT_l h
    have hr := Option.some.inj h
    subst hr
    exact RunA.out (runV_A (ci := 13) (N := 2) (T := TX14) (As := []) (rest := []) (o := o) X hKS.2.1 (H_value K sz hKS.here hK0 g (.inl (e1_, s1_)) hc1) gwX14_value_54 hdV_X14_value ⟨by first | omega | (dsimp only [rmA]; omega), by first | omega | (dsimp only [rmA]; omega)⟩ rfl (by decide) hK0 rfl rfl (Nat.le_of_ble_eq_true rfl) dX14_product_1 rfl) hX (fun _ h => nomatch h) hKS
  replace h := thT_r h
  refine RunA.back (s1 := [.ref (xb x + y1.1)]) (runV_A (ci := 13) (N := 2) (T := TX14) (As := []) (rest := []) (o := o) X hKS.2.1 (H_value K sz hKS.here hK0 g (.inr y1) hc1) gwX14_value_54 hdV_X14_value ⟨by first | omega | (dsimp only [rmA]; omega), by first | omega | (dsimp only [rmA]; omega)⟩ rfl (by decide) hK0 rfl rfl (Nat.le_of_ble_eq_true rfl) dX14_product_1 rfl) X hX.2.2.2.1 hX.hA rfl (fun hKSc => ?_)
  have hK0 := hKS.kp hKSc hK0
  have hKS := hKS.tr hKSc
  have hWS := hKS.2.2.2.2 rfl
  have hW := hWS.1
  refine V_astore_n X dX14_product_4 (by decide) (L' := [(1, .ref (xb x + y1.1)), (0, .ref (xb x + o))]) rfl ?_
  exact V_sub [1, 0] rfl (LL5 N (y1.2, y1.1) _ h rfl hKS)
set_option maxHeartbeats 4000000 in
theorem con_xLawReader_sum_F (N : Nat) (o : Nat) (fr lo : Nat) (R_product : (Nat → Nat) → Nat → GS → Option ((Nat × S3) ⊕ (Nat × S3))) (H_product : ∀ (K : Nat → Nat) (sz : Nat) (hKS : KS true K sz K sz) (hK0 : K o = 14) (g : GS) (r : ((Nat × S3) ⊕ (Nat × S3))), R_product K sz g = some r → ConA true sz yX14_product cX14_product 2 (some (.object "RainWheel$Term")) fr lo K (fun b => [.ref (b + o)]) g (fun r => ((fun b => some (.ref (b + r.1))), r.2)) r) (K : Nat → Nat) (sz : Nat) (hKS : KS true K sz K sz) (hK0 : K o = 14) (g : GS) (r : ((Nat × S3) ⊕ (Nat × S3))) (h : xLawReader_sum_F N R_product o K sz g = some r) : ConA true sz yX14_sum cX14_sum 2 (some (.object "RainWheel$Term")) (fr + 8) (lo + 220) K (fun b => [.ref (b + o)]) g (fun r => ((fun b => some (.ref (b + r.1))), r.2)) r := by
  refine ConA.of RX14 (by decide) rfl (fun b => Nat.le_of_ble_eq_true rfl) (fun x hX hnm => ?_)
  have X := hX.1
  have h0K := hKS.2.2.1
  have hK0e := hK0
  have hWS := hKS.2.2.2.2 rfl
  have hW := hWS.1
  have LL5 : ∀  (n : Nat) (s : (S3 × Nat)) (e : ((Nat × S3) ⊕ (Nat × S3))), loopN (fun s => xLawReader_sum_F_b5 N R_product o s.1 s.2) n s = some e → (e = r) → KS true K sz s.1.1 s.1.2.1 → V x 2 s.1.1 (s.1.2.1 - sz) (600 * (s.1.2.1 - sz)) s.1.2.1 s.1.2.2 5 [(0, .ref (xb x + o)), (1, .ref (xb x + s.2))] [] := by
    intro  n s e
    refine loop_walk (P := fun s => KS true K sz s.1.1 s.1.2.1 → V x 2 s.1.1 (s.1.2.1 - sz) (600 * (s.1.2.1 - sz)) s.1.2.1 s.1.2.2 5 [(0, .ref (xb x + o)), (1, .ref (xb x + s.2))] []) (E := fun e => e = r) ?_ n s e
    clear e s n
    rintro ⟨g, l1⟩ qv5 h hc5 he5
    intro hKS
    have hWS := hKS.2.2.2.2 rfl
    have hW := hWS.1
    have hK0 := hKS.keep h0K hK0e
    replace h : xLawReader_sum_F_b5 N R_product o g l1 = some qv5 := h
    unfold xLawReader_sum_F_b5 at h
    show V x 2 g.1 (g.2.1 - sz) (600 * (g.2.1 - sz)) g.2.1 g.2.2 5 [(0, .ref (xb x + o)), (1, .ref (xb x + l1))] []
    refine V_aload_n X dX14_sum_5 0 rfl ?_
    refine V_get (ci := 13) (N := 2) (C := RX14) (T := TX14) (o := o) (j := 1) X rfl in_X14 (by decide) hK0 (by decide) q1012 (fv_1 (i := (o + 1)) rfl rfl) dX14_sum_6 ?_
    refine V_bipush X dX14_sum_9 (by decide) ?_
    obtain ⟨c11, hc11, h⟩ := bind_some_eq h
    refine V_callV (ci := 11) (N := 4) (T := TX12) (As := [vI 43]) (rest := []) (s1 := [vI c11.1]) (o := (o + 1)) X (con_xReader_takesSign g.1 hW N (o + 1) (hW.blk (by decide) hK0 1 (by decide) rfl) g.2.2 43 c11 hc11) gwX14_takesSign_45 hdV_X12_takesSign ⟨by first | omega | (dsimp only [rmA]; omega), by first | omega | (dsimp only [rmA]; omega)⟩ rfl (by decide) (hW.blk (by decide) hK0 1 (by decide) rfl) rfl rfl (Nat.le_of_ble_eq_true rfl) (limcc hKS.2.1) dX14_sum_11 rfl rfl ?_
    refine V_if_eq (tgt := 35) X dX14_sum_14 (by decide) h (fun h => ?_) (fun h => ?_)
    · refine V_aload_n X dX14_sum_35 0 rfl ?_
      refine V_get (ci := 13) (N := 2) (C := RX14) (T := TX14) (o := o) (j := 1) X rfl in_X14 (by decide) hK0 (by decide) q1012 (fv_1 (i := (o + 1)) rfl rfl) dX14_sum_36 ?_
      refine V_bipush X dX14_sum_39 (by decide) ?_
      obtain ⟨c41, hc41, h⟩ := bind_some_eq h
      refine V_callV (ci := 11) (N := 4) (T := TX12) (As := [vI 45]) (rest := []) (s1 := [vI c41.1]) (o := (o + 1)) X (con_xReader_takesSign g.1 hW N (o + 1) (hW.blk (by decide) hK0 1 (by decide) rfl) c11.2 45 c41 hc41) gwX14_takesSign_45 hdV_X12_takesSign ⟨by first | omega | (dsimp only [rmA]; omega), by first | omega | (dsimp only [rmA]; omega)⟩ rfl (by decide) (hW.blk (by decide) hK0 1 (by decide) rfl) rfl rfl (Nat.le_of_ble_eq_true rfl) (limcc hKS.2.1) dX14_sum_41 rfl rfl ?_
      refine V_if_eq (tgt := 65) X dX14_sum_44 (by decide) h (fun h => ?_) (fun h => ?_)
      · obtain ⟨e1, h, e1q⟩ := outR_some h
        replace h := h.trans (congrArg some (he5 _ e1q))
        refine V_aload_n X dX14_sum_65 1 rfl ?_
        have hr := Option.some.inj h
        subst hr
        exact V_endA_a hX rfl hKS dX14_sum_66
      · obtain ⟨hm, h⟩ := lim_some h
        have hz47 := hKS.1
        refine V_newA (ci := 14) (N := 3) (C := RX15) (T := TX15) X hX.2.2.2.1 hX.hA hm rfl in_X15 tyX15 tyX15_ok (by decide) (by decide) q1047 q1048 q119 df_14 dX14_sum_47 ?_
        have hK0 := ku_kp (kd := 15) hKS hK0
        have hKS := hKS.upw (kd := 15) hm rfl
        have hWS := hKS.2.2.2.2 rfl
        have hW := hWS.1
        have hN47 := (ku_self : ku g.1 g.2.1 15 g.2.1 = 15)
        refine V_dup X dX14_sum_50 rfl ?_
        refine V_bipush X dX14_sum_51 (by decide) ?_
        refine V_aload_n X dX14_sum_53 1 rfl ?_
        refine V_aload_n X dX14_sum_54 0 rfl ?_
        obtain ⟨c55, hc55, h⟩ := bind_some_eq h
        rcases c55 with ⟨e55_, s55_⟩ | y55
        · replace h := thT_l h
          obtain ⟨e2, h, e2q⟩ := outR_some h
          replace h := h.trans (congrArg some (he5 _ e2q))
          have hr := Option.some.inj h
          subst hr
          exact RunA.out (runV_A (ci := 13) (N := 2) (T := TX14) (As := []) (rest := [.ref (xb x + l1), vI 45, .ref (xb x + g.2.1), .ref (xb x + g.2.1)]) (o := o) X hKS.2.1 (H_product (ku g.1 g.2.1 15) (g.2.1 + 1) hKS.here hK0 (newI 14 g.2.1 c41.2) (.inl (e55_, s55_)) hc55) gwX14_product_42 hdV_X14_product ⟨by first | omega | (dsimp only [rmA]; omega), by first | omega | (dsimp only [rmA]; omega)⟩ rfl (by decide) hK0 rfl rfl (Nat.le_of_ble_eq_true rfl) dX14_sum_55 rfl) hX (fun _ h => nomatch h) hKS
        replace h := thT_r h
        refine RunA.back (s1 := [.ref (xb x + y55.1), .ref (xb x + l1), vI 45, .ref (xb x + g.2.1), .ref (xb x + g.2.1)]) (runV_A (ci := 13) (N := 2) (T := TX14) (As := []) (rest := [.ref (xb x + l1), vI 45, .ref (xb x + g.2.1), .ref (xb x + g.2.1)]) (o := o) X hKS.2.1 (H_product (ku g.1 g.2.1 15) (g.2.1 + 1) hKS.here hK0 (newI 14 g.2.1 c41.2) (.inr y55) hc55) gwX14_product_42 hdV_X14_product ⟨by first | omega | (dsimp only [rmA]; omega), by first | omega | (dsimp only [rmA]; omega)⟩ rfl (by decide) hK0 rfl rfl (Nat.le_of_ble_eq_true rfl) dX14_sum_55 rfl) X hX.2.2.2.1 hX.hA rfl (fun hKSc => ?_)
        have hK0 := hKS.kp hKSc hK0
        have hN47 := hKS.kp hKSc hN47
        have hKS := hKS.tr hKSc
        have hWS := hKS.2.2.2.2 rfl
        have hW := hWS.1
        obtain ⟨c58, hc58, h⟩ := bind_some_eq h
        refine V_callIA (As := [vI 45, .ref (xb x + l1), .ref (xb x + y55.1)]) (rest := [.ref (xb x + g.2.1)]) (s1 := [.ref (xb x + g.2.1)]) (o := g.2.1) X hX.2.2.2.1 hX.hA hKS.2.1 (con_xTwo_init true g.2.1 l1 y55.1 y55.2.1 y55.2.2.1 hKS.here hN47 y55.2.2.2 45 c58 hc58) q1049 q1050 q119 q1051 hdI_X15 ⟨by first | omega | (dsimp only [rmA]; omega), by first | omega | (dsimp only [rmA]; omega)⟩ rfl rfl (Nat.le_of_ble_eq_true rfl) dX14_sum_58 rfl rfl (fun hKSc => ?_)
        have hK0 := hKS.kp hKSc hK0
        have hN47 := hKS.kp hKSc hN47
        have hKS := hKS.tr hKSc
        have hWS := hKS.2.2.2.2 rfl
        have hW := hWS.1
        refine V_astore_n X dX14_sum_61 (by decide) (L' := [(1, .ref (xb x + g.2.1)), (0, .ref (xb x + o))]) rfl ?_
        refine V_goto (tgt := 5) X dX14_sum_62 (by decide) ?_
        exact V_sub [1, 0] rfl (hc5 _ (Option.some.inj h).symm hKS)
    · obtain ⟨hm, h⟩ := lim_some h
      have hz17 := hKS.1
      refine V_newA (ci := 14) (N := 3) (C := RX15) (T := TX15) X hX.2.2.2.1 hX.hA hm rfl in_X15 tyX15 tyX15_ok (by decide) (by decide) q1047 q1048 q119 df_14 dX14_sum_17 ?_
      have hK0 := ku_kp (kd := 15) hKS hK0
      have hKS := hKS.upw (kd := 15) hm rfl
      have hWS := hKS.2.2.2.2 rfl
      have hW := hWS.1
      have hN17 := (ku_self : ku g.1 g.2.1 15 g.2.1 = 15)
      refine V_dup X dX14_sum_20 rfl ?_
      refine V_bipush X dX14_sum_21 (by decide) ?_
      refine V_aload_n X dX14_sum_23 1 rfl ?_
      refine V_aload_n X dX14_sum_24 0 rfl ?_
      obtain ⟨c25, hc25, h⟩ := bind_some_eq h
      rcases c25 with ⟨e25_, s25_⟩ | y25
      · replace h := thT_l h
        obtain ⟨e3, h, e3q⟩ := outR_some h
        replace h := h.trans (congrArg some (he5 _ e3q))
        have hr := Option.some.inj h
        subst hr
        exact RunA.out (runV_A (ci := 13) (N := 2) (T := TX14) (As := []) (rest := [.ref (xb x + l1), vI 43, .ref (xb x + g.2.1), .ref (xb x + g.2.1)]) (o := o) X hKS.2.1 (H_product (ku g.1 g.2.1 15) (g.2.1 + 1) hKS.here hK0 (newI 14 g.2.1 c11.2) (.inl (e25_, s25_)) hc25) gwX14_product_42 hdV_X14_product ⟨by first | omega | (dsimp only [rmA]; omega), by first | omega | (dsimp only [rmA]; omega)⟩ rfl (by decide) hK0 rfl rfl (Nat.le_of_ble_eq_true rfl) dX14_sum_25 rfl) hX (fun _ h => nomatch h) hKS
      replace h := thT_r h
      refine RunA.back (s1 := [.ref (xb x + y25.1), .ref (xb x + l1), vI 43, .ref (xb x + g.2.1), .ref (xb x + g.2.1)]) (runV_A (ci := 13) (N := 2) (T := TX14) (As := []) (rest := [.ref (xb x + l1), vI 43, .ref (xb x + g.2.1), .ref (xb x + g.2.1)]) (o := o) X hKS.2.1 (H_product (ku g.1 g.2.1 15) (g.2.1 + 1) hKS.here hK0 (newI 14 g.2.1 c11.2) (.inr y25) hc25) gwX14_product_42 hdV_X14_product ⟨by first | omega | (dsimp only [rmA]; omega), by first | omega | (dsimp only [rmA]; omega)⟩ rfl (by decide) hK0 rfl rfl (Nat.le_of_ble_eq_true rfl) dX14_sum_25 rfl) X hX.2.2.2.1 hX.hA rfl (fun hKSc => ?_)
      have hK0 := hKS.kp hKSc hK0
      have hN17 := hKS.kp hKSc hN17
      have hKS := hKS.tr hKSc
      have hWS := hKS.2.2.2.2 rfl
      have hW := hWS.1
      obtain ⟨c28, hc28, h⟩ := bind_some_eq h
      refine V_callIA (As := [vI 43, .ref (xb x + l1), .ref (xb x + y25.1)]) (rest := [.ref (xb x + g.2.1)]) (s1 := [.ref (xb x + g.2.1)]) (o := g.2.1) X hX.2.2.2.1 hX.hA hKS.2.1 (con_xTwo_init true g.2.1 l1 y25.1 y25.2.1 y25.2.2.1 hKS.here hN17 y25.2.2.2 43 c28 hc28) q1049 q1050 q119 q1051 hdI_X15 ⟨by first | omega | (dsimp only [rmA]; omega), by first | omega | (dsimp only [rmA]; omega)⟩ rfl rfl (Nat.le_of_ble_eq_true rfl) dX14_sum_28 rfl rfl (fun hKSc => ?_)
      have hK0 := hKS.kp hKSc hK0
      have hN17 := hKS.kp hKSc hN17
      have hKS := hKS.tr hKSc
      have hWS := hKS.2.2.2.2 rfl
      have hW := hWS.1
      refine V_astore_n X dX14_sum_31 (by decide) (L' := [(1, .ref (xb x + g.2.1)), (0, .ref (xb x + o))]) rfl ?_
      refine V_goto (tgt := 5) X dX14_sum_32 (by decide) ?_
      exact V_sub [1, 0] rfl (hc5 _ (Option.some.inj h).symm hKS)
  unfold xLawReader_sum_F at h
  show V x 2 K (sz - sz) (600 * (sz - sz)) sz g 0 [(0, .ref (xb x + o))] []
  refine V_aload_n X dX14_sum_0 0 rfl ?_
  obtain ⟨c1, hc1, h⟩ := bind_some_eq h
  rcases c1 with ⟨e1_, s1_⟩ | y1
  · replace h := thT_l h
    have hr := Option.some.inj h
    subst hr
    exact RunA.out (runV_A (ci := 13) (N := 2) (T := TX14) (As := []) (rest := []) (o := o) X hKS.2.1 (H_product K sz hKS.here hK0 g (.inl (e1_, s1_)) hc1) gwX14_product_42 hdV_X14_product ⟨by first | omega | (dsimp only [rmA]; omega), by first | omega | (dsimp only [rmA]; omega)⟩ rfl (by decide) hK0 rfl rfl (Nat.le_of_ble_eq_true rfl) dX14_sum_1 rfl) hX (fun _ h => nomatch h) hKS
  replace h := thT_r h
  refine RunA.back (s1 := [.ref (xb x + y1.1)]) (runV_A (ci := 13) (N := 2) (T := TX14) (As := []) (rest := []) (o := o) X hKS.2.1 (H_product K sz hKS.here hK0 g (.inr y1) hc1) gwX14_product_42 hdV_X14_product ⟨by first | omega | (dsimp only [rmA]; omega), by first | omega | (dsimp only [rmA]; omega)⟩ rfl (by decide) hK0 rfl rfl (Nat.le_of_ble_eq_true rfl) dX14_sum_1 rfl) X hX.2.2.2.1 hX.hA rfl (fun hKSc => ?_)
  have hK0 := hKS.kp hKSc hK0
  have hKS := hKS.tr hKSc
  have hWS := hKS.2.2.2.2 rfl
  have hW := hWS.1
  refine V_astore_n X dX14_sum_4 (by decide) (L' := [(1, .ref (xb x + y1.1)), (0, .ref (xb x + o))]) rfl ?_
  exact V_sub [1, 0] rfl (LL5 N (y1.2, y1.1) _ h rfl hKS)
theorem con_xLawReader_sum_R (N : Nat) (o : Nat) : ∀ (d : Nat) (K : Nat → Nat) (sz : Nat) (hKS : KS true K sz K sz) (hK0 : K o = 14) (g : GS) (r : ((Nat × S3) ⊕ (Nat × S3))), xLawReader_sum_R N o d K sz g = some r → ConA true sz yX14_sum cX14_sum 2 (some (.object "RainWheel$Term")) (d * 24) (d * 660) K (fun b => [.ref (b + o)]) g (fun r => ((fun b => some (.ref (b + r.1))), r.2)) r := by
  intro d
  induction d with
  | zero => intro K sz hKS hK0 g r h; cases h
  | succ d ih =>
    intro K sz hKS hK0 g r h
    have hv := fun (K : Nat → Nat) (sz : Nat) (hKS : KS true K sz K sz) (hK0 : K o = 14) (g : GS) (r : ((Nat × S3) ⊕ (Nat × S3))) (h : xLawReader_value_F N (xLawReader_sum_R N o d) o K sz g = some r) => con_xLawReader_value_F N o (d * 24) (d * 660) (xLawReader_sum_R N o d) ih K sz hKS hK0 g r h
    have hp := fun (K : Nat → Nat) (sz : Nat) (hKS : KS true K sz K sz) (hK0 : K o = 14) (g : GS) (r : ((Nat × S3) ⊕ (Nat × S3))) (h : xLawReader_product_F N (xLawReader_value_F N (xLawReader_sum_R N o d) o) o K sz g = some r) => con_xLawReader_product_F N o (d * 24 + 8) (d * 660 + 220) (xLawReader_value_F N (xLawReader_sum_R N o d) o) hv K sz hKS hK0 g r h
    have hs := con_xLawReader_sum_F N o (d * 24 + 8 + 8) (d * 660 + 220 + 220) _ hp K sz hKS hK0 g r h
    rwa [show d * 24 + 8 + 8 + 8 = (d + 1) * 24 by omega, show d * 660 + 220 + 220 + 220 = (d + 1) * 660 by omega] at hs
theorem con_xLawReader_sum (N : Nat) (o : Nat) (K : Nat → Nat) (sz : Nat) (hKS : KS true K sz K sz) (hK0 : K o = 14) (g : GS) (r : ((Nat × S3) ⊕ (Nat × S3))) (h : xLawReader_sum N o K sz g = some r) : ConA true sz yX14_sum cX14_sum 2 (some (.object "RainWheel$Term")) 240 6600 K (fun b => [.ref (b + o)]) g (fun r => ((fun b => some (.ref (b + r.1))), r.2)) r := con_xLawReader_sum_R N o 10 K sz hKS hK0 g r h
set_option maxHeartbeats 4000000 in
theorem con_x_feed (N : Nat) (K : Nat → Nat) (sz : Nat) (hKS : KS true K sz K sz) (g : GS) (l1 : Int) (l2 : Int) (l3 : Int) (l4 : Int) (l5 : Int) (r : (Int × S3)) (h : x_feed N K sz g l1 l2 l3 l4 l5 = some r) : ConA true sz yX1_feed cX1_feed 8 (some .int) 2 160 K (fun b => [.ref (b + 0), vI l1, vI l2, vI l3, vI l4, vI l5]) g (fun r => ((fun _ => some (vI r.1)), r.2)) (.inr r) := by
  refine ConA.of RX1 (by decide) rfl (fun b => Nat.le_of_ble_eq_true rfl) (fun x hX hnm => ?_)
  have X := hX.1
  have h0K := hKS.2.2.1
  have hWS := hKS.2.2.2.2 rfl
  have hW := hWS.1
  have LL45 : ∀ (l6 : Nat) (n : Nat) (s : (S3 × Int)) (e : (Int × S3)), loopN (fun s => x_feed_b45 N l6 s.1 s.2) n s = some e → (e = r) → KS true K sz s.1.1 s.1.2.1 → V x 8 s.1.1 (s.1.2.1 - sz) (600 * (s.1.2.1 - sz)) s.1.2.1 s.1.2.2 45 [(0, .ref (xb x + 0)), (6, .ref (xb x + l6)), (7, vI s.2)] [] := by
    intro l6 n s e
    refine loop_walk (P := fun s => KS true K sz s.1.1 s.1.2.1 → V x 8 s.1.1 (s.1.2.1 - sz) (600 * (s.1.2.1 - sz)) s.1.2.1 s.1.2.2 45 [(0, .ref (xb x + 0)), (6, .ref (xb x + l6)), (7, vI s.2)] []) (E := fun e => e = r) ?_ n s e
    clear e s n
    rintro ⟨g, l7⟩ qv45 h hc45 he45
    intro hKS
    have hWS := hKS.2.2.2.2 rfl
    have hW := hWS.1
    replace h : x_feed_b45 N l6 g l7 = some qv45 := h
    unfold x_feed_b45 at h
    show V x 8 g.1 (g.2.1 - sz) (600 * (g.2.1 - sz)) g.2.1 g.2.2 45 [(0, .ref (xb x + 0)), (6, .ref (xb x + l6)), (7, vI l7)] []
    obtain ⟨hKl6, h⟩ := ckK_some h
    refine V_iload X dX1_feed_45 2 rfl ?_
    refine V_bipush X dX1_feed_47 (by decide) ?_
    refine V_icmp_ge (tgt := 93) X dX1_feed_49 (by decide) h (fun h => ?_) (fun h => ?_)
    · obtain ⟨e1, h, e1q⟩ := outR_some h
      replace h := h.trans (congrArg some (he45 _ e1q))
      refine V_aload_n X dX1_feed_93 0 rfl ?_
      refine V_get (ci := 0) (N := 18) (C := RX1) (T := TX1) (o := 0) (j := 13) X rfl in_X1 (by decide) (hW.at 0 rfl) (by decide) q490 (fv_0 rfl) dX1_feed_94 ?_
      have hr := Option.some.inj h
      subst hr
      exact V_endA_i hX rfl hKS dX1_feed_97
    · refine V_aload_n X dX1_feed_52 0 rfl ?_
      refine V_get (ci := 0) (N := 18) (C := RX1) (T := TX1) (o := 0) (j := 0) X rfl in_X1 (by decide) (hW.at 0 rfl) (by decide) q477 (fv_1 (i := 1) rfl rfl) dX1_feed_53 ?_
      refine V_aload_n X dX1_feed_56 0 rfl ?_
      refine V_dup X dX1_feed_57 rfl ?_
      refine V_get (ci := 0) (N := 18) (C := RX1) (T := TX1) (o := 0) (j := 13) X rfl in_X1 (by decide) (hW.at 0 rfl) (by decide) q490 (fv_0 rfl) dX1_feed_58 ?_
      refine V_dup_x1 X dX1_feed_61 rfl rfl ?_
      refine V_iconst X dX1_feed_62 ?_
      refine V_iadd X dX1_feed_63 ?_
      refine V_put (ty := .int) (ci := 0) (N := 18) (C := RX1) (T := TX1) (o := 0) (j := 13) (a := ((gI g.2.2 13 0) + 1)) X rfl in_X1 tyX1 tyX1_ok nmX1 (by decide) (hW.at 0 rfl) (by decide) rfl pfd_I rfl rfl q490 (by rw [fv_0 rfl, gI_sI, if_pos ⟨rfl, rfl⟩]) dX1_feed_64 ?_
      refine V_aload X dX1_feed_67 1 rfl ?_
      refine V_iload X dX1_feed_69 2 rfl ?_
      refine V_iconst X dX1_feed_71 ?_
      refine V_idivK X dX1_feed_72 (by decide) ?_
      refine V_iald X (o := l6) (n := 5) hKl6 (by decide) dX1_feed_73 h (fun v73 h => ?_)
      refine V_bipush X dX1_feed_74 (by decide) ?_
      refine V_bipush X dX1_feed_76 (by decide) ?_
      refine V_iload X dX1_feed_78 2 rfl ?_
      refine V_iconst X dX1_feed_80 ?_
      refine V_iremK X dX1_feed_81 (by decide) ?_
      refine V_imul X dX1_feed_82 ?_
      refine V_isub X dX1_feed_83 ?_
      refine V_ishr X dX1_feed_84 ?_
      refine V_i2b X dX1_feed_85 ?_
      refine V_bast X (o := 1) (n := 600) (hW.at 1 rfl) (by decide) dX1_feed_86 h (fun g86 h => ?_)
      refine V_iinc X dX1_feed_87 2 rfl (by decide) (L' := [(7, vI (l7 + 1)), (0, .ref (xb x + 0)), (6, .ref (xb x + l6))]) rfl ?_
      refine V_goto (tgt := 45) X dX1_feed_90 (by decide) ?_
      exact V_sub [1, 2, 0] rfl (hc45 _ (Option.some.inj h).symm hKS)
  unfold x_feed at h
  show V x 8 K (sz - sz) (600 * (sz - sz)) sz g 0 [(0, .ref (xb x + 0)), (1, vI l1), (2, vI l2), (3, vI l3), (4, vI l4), (5, vI l5)] []
  refine V_aload_n X dX1_feed_0 0 rfl ?_
  refine V_get (ci := 0) (N := 18) (C := RX1) (T := TX1) (o := 0) (j := 13) X rfl in_X1 (by decide) (hW.at 0 rfl) (by decide) q490 (fv_0 rfl) dX1_feed_1 ?_
  refine V_bipush X dX1_feed_4 (by decide) ?_
  refine V_iadd X dX1_feed_6 ?_
  refine V_sipush X dX1_feed_7 (by decide) ?_
  refine V_icmp_le (tgt := 15) X dX1_feed_10 (by decide) h (fun h => ?_) (fun h => ?_)
  · refine V_iconst X dX1_feed_15 ?_
    obtain ⟨hm, h⟩ := lim_some h
    refine V_newarrA (at' := .int) (t := 0) (N := 5) X hX.2.2.2.1 hX.hA hm (by decide) rfl q168 (by decide) dX1_feed_16 ?_
    have hKS := hKS.upw (kd := 10005) hm rfl
    have hWS := hKS.2.2.2.2 rfl
    have hW := hWS.1
    have hN16 := (ku_self : ku K sz 10005 sz = 10005)
    refine V_dup X dX1_feed_18 rfl ?_
    refine V_iconst X dX1_feed_19 ?_
    refine V_iload_n X dX1_feed_20 1 rfl ?_
    refine V_iast X (o := sz) (n := 5) hN16 (by decide) dX1_feed_21 h (fun g21 h => ?_)
    refine V_dup X dX1_feed_22 rfl ?_
    refine V_iconst X dX1_feed_23 ?_
    refine V_iload_n X dX1_feed_24 2 rfl ?_
    refine V_iast X (o := sz) (n := 5) hN16 (by decide) dX1_feed_25 h (fun g25 h => ?_)
    refine V_dup X dX1_feed_26 rfl ?_
    refine V_iconst X dX1_feed_27 ?_
    refine V_iload_n X dX1_feed_28 3 rfl ?_
    refine V_iast X (o := sz) (n := 5) hN16 (by decide) dX1_feed_29 h (fun g29 h => ?_)
    refine V_dup X dX1_feed_30 rfl ?_
    refine V_iconst X dX1_feed_31 ?_
    refine V_iload X dX1_feed_32 4 rfl ?_
    refine V_iast X (o := sz) (n := 5) hN16 (by decide) dX1_feed_34 h (fun g34 h => ?_)
    refine V_dup X dX1_feed_35 rfl ?_
    refine V_iconst X dX1_feed_36 ?_
    refine V_iload X dX1_feed_37 5 rfl ?_
    refine V_iast X (o := sz) (n := 5) hN16 (by decide) dX1_feed_39 h (fun g39 h => ?_)
    refine V_astore X dX1_feed_40 (by decide) (L' := [(6, .ref (xb x + sz)), (0, .ref (xb x + 0)), (1, vI l1), (2, vI l2), (3, vI l3), (4, vI l4), (5, vI l5)]) rfl ?_
    refine V_iconst X dX1_feed_42 ?_
    refine V_istore X dX1_feed_43 (by decide) (L' := [(7, vI 0), (6, .ref (xb x + sz)), (0, .ref (xb x + 0)), (1, vI l1), (2, vI l2), (3, vI l3), (4, vI l4), (5, vI l5)]) rfl ?_
    exact V_sub [2, 1, 0] rfl (LL45 sz N (((ku K sz 10005), (sz + 1), g39), 0) _ h rfl hKS)
  · refine V_iconst X dX1_feed_13 ?_
    have hr := Option.some.inj h
    subst hr
    exact V_endA_i hX rfl hKS dX1_feed_14
set_option maxHeartbeats 4000000 in
theorem con_x_reader (K : Nat → Nat) (sz : Nat) (hKS : KS true K sz K sz) (g : GS) (l1 : Int) (r : (Nat × S3)) (h : x_reader K sz g l1 = some r) : ConA true sz yX1_reader cX1_reader 2 (some (.object "RainWheel$Reader")) 7 182 K (fun b => [.ref (b + 0), vI l1]) g (fun r => ((fun b => some (.ref (b + r.1))), r.2)) (.inr r) := by
  refine ConA.of RX1 (by decide) rfl (fun b => Nat.le_of_ble_eq_true rfl) (fun x hX hnm => ?_)
  have X := hX.1
  have h0K := hKS.2.2.1
  have hWS := hKS.2.2.2.2 rfl
  have hW := hWS.1
  unfold x_reader at h
  show V x 2 K (sz - sz) (600 * (sz - sz)) sz g 0 [(0, .ref (xb x + 0)), (1, vI l1)] []
  refine V_aload_n X dX1_reader_0 0 rfl ?_
  refine V_iconst X dX1_reader_1 ?_
  refine V_put (ty := .int) (ci := 0) (N := 18) (C := RX1) (T := TX1) (o := 0) (j := 13) (a := 0) X rfl in_X1 tyX1 tyX1_ok nmX1 (by decide) (hW.at 0 rfl) (by decide) rfl pfd_I rfl rfl q490 (by rw [fv_0 rfl, gI_sI, if_pos ⟨rfl, rfl⟩]) dX1_reader_2 ?_
  refine V_aload_n X dX1_reader_5 0 rfl ?_
  refine V_iconst X dX1_reader_6 ?_
  refine V_put (ty := .int) (ci := 0) (N := 18) (C := RX1) (T := TX1) (o := 0) (j := 14) (a := (-1)) X rfl in_X1 tyX1 tyX1_ok nmX1 (by decide) (hW.at 0 rfl) (by decide) rfl pfd_I rfl rfl q491 (by rw [fv_0 rfl, gI_sI, if_pos ⟨rfl, rfl⟩]) dX1_reader_7 ?_
  obtain ⟨hm, h⟩ := lim_some h
  have hz10 := hKS.1
  refine V_newA (ci := 28) (N := 4) (C := RX12) (T := TX12) X hX.2.2.2.1 hX.hA hm rfl in_X12 tyX12 tyX12_ok (by decide) (by decide) q790 q791 q111 df_28 dX1_reader_10 ?_
  have hKS := hKS.upw (kd := 29) hm rfl
  have hWS := hKS.2.2.2.2 rfl
  have hW := hWS.1
  have hN10 := (ku_self : ku K sz 29 sz = 29)
  refine V_dup X dX1_reader_13 rfl ?_
  refine V_aload_n X dX1_reader_14 0 rfl ?_
  refine V_get (ci := 0) (N := 18) (C := RX1) (T := TX1) (o := 0) (j := 0) X rfl in_X1 (by decide) (hW.at 0 rfl) (by decide) q477 (fv_1 (i := 1) rfl rfl) dX1_reader_15 ?_
  refine V_iload_n X dX1_reader_18 1 rfl ?_
  obtain ⟨c19, hc19, h⟩ := bind_some_eq h
  refine V_callIA (As := [.ref (xb x + 1), vI l1]) (rest := [.ref (xb x + sz)]) (s1 := [.ref (xb x + sz)]) (o := sz) X hX.2.2.2.1 hX.hA hKS.2.1 (con_xReader_init true sz 1 600 (ku K sz 29) (sz + 1) hKS.here hN10 ⟨(hW.at 1 rfl), (by decide)⟩ (newI 28 sz (sI (sI g 13 0 0) 14 0 (-1))) l1 c19 hc19) q792 q793 q111 q794 hdI_X12 ⟨Nat.le_of_ble_eq_true rfl, Nat.le_of_ble_eq_true rfl⟩ rfl rfl (Nat.le_of_ble_eq_true rfl) dX1_reader_19 rfl rfl (fun hKSc => ?_)
  have hN10 := hKS.kp hKSc hN10
  have hKS := hKS.tr hKSc
  have hWS := hKS.2.2.2.2 rfl
  have hW := hWS.1
  obtain ⟨hdn, h⟩ := dnP_some h
  refine V_done (ci := 11) (N := 4) (o := sz) X (C := RX12) (T := TX12) rfl rfl (by decide) (by decide) hN10 hdn ?_
  have hKS := hKS.done (ci := 11) (by omega) (by decide) hN10 hdn
  have hWS := hKS.2.2.2.2 rfl
  have hW := hWS.1
  have hN10d := (ku_self : ku c19.1 sz 12 sz = 12)
  have hr := Option.some.inj h
  subst hr
  exact V_endA_a hX rfl hKS dX1_reader_22
set_option maxHeartbeats 4000000 in
theorem con_x_faulty (K : Nat → Nat) (hW : WFK K) (l1 : Nat) (hK1 : K l1 = 13) (g : GS) (r : (Int × GS)) (h : x_faulty l1 g = some r) : Con yX1_faulty cX1_faulty 2 (some .int) 1 12 K (fun b => [.ref (b + 0), .ref (b + l1)]) g (fun _ => some (vI r.1)) r.2 := by
  refine Con.of RX1 (by decide) rfl (fun b => Nat.le_of_ble_eq_true rfl) (fun x sz hX => ?_)
  have X := hX.1
  unfold x_faulty at h
  show V x 2 K 0 0 sz g 0 [(0, .ref (xb x + 0)), (1, .ref (xb x + l1))] []
  refine V_aload_n X dX1_faulty_0 0 rfl ?_
  refine V_aload_n X dX1_faulty_1 1 rfl ?_
  refine V_getN (ci := 12) (N := 8) (C := RX13) (T := TX13) (o := l1) (j := 7) X rfl in_X13 (by decide) hK1 (by decide) q944 (fv_0 rfl) dX1_faulty_2 ?_
  refine V_put (ty := .int) (ci := 0) (N := 18) (C := RX1) (T := TX1) (o := 0) (j := 14) (a := (gI g 1207 l1)) X rfl in_X1 tyX1 tyX1_ok nmX1 (by decide) (hW.at 0 rfl) (by decide) rfl pfd_I rfl rfl q491 (by rw [fv_0 rfl, gI_sI, if_pos ⟨rfl, rfl⟩]) dX1_faulty_5 ?_
  refine V_aload_n X dX1_faulty_8 1 rfl ?_
  refine V_getN (ci := 12) (N := 8) (C := RX13) (T := TX13) (o := l1) (j := 6) X rfl in_X13 (by decide) hK1 (by decide) q942 (fv_0 rfl) dX1_faulty_9 ?_
  refine V_bipush X dX1_faulty_12 (by decide) ?_
  refine V_isub X dX1_faulty_14 ?_
  have hr := Option.some.inj h
  subst hr
  exact V_end_i hX rfl dX1_faulty_15
set_option maxHeartbeats 4000000 in
theorem con_x_road (N : Nat) (K : Nat → Nat) (sz : Nat) (hKS : KS true K sz K sz) (g : GS) (l1 : Int) (r : ((Nat × S3) ⊕ (Int × S3))) (h : x_road N K sz g l1 = some r) : ConAW [(10, 29, 32, 118)] true sz yX1_road cX1_road 3 (some .int) 11 259 K (fun b => [.ref (b + 0), vI l1]) g (fun r => ((fun _ => some (vI r.1)), r.2)) r := by
  refine ConAW.of RX1 (by decide) rfl (fun b => Nat.le_of_ble_eq_true rfl) (fun x hX hnm => ?_)
  have X := hX.1
  have h0K := hKS.2.2.1
  have hWS := hKS.2.2.2.2 rfl
  have hW := hWS.1
  have LL62 : ∀  (n : Nat) (s : (S3 × Int)) (e : (S3)), loopN (fun s => x_road_b62 N s.1 s.2) n s = some e → (KS true K sz e.1 e.2.1 → V x 3 e.1 (e.2.1 - sz) (600 * (e.2.1 - sz)) e.2.1 e.2.2 80 [(0, .ref (xb x + 0))] []) → KS true K sz s.1.1 s.1.2.1 → V x 3 s.1.1 (s.1.2.1 - sz) (600 * (s.1.2.1 - sz)) s.1.2.1 s.1.2.2 62 [(0, .ref (xb x + 0)), (2, vI s.2)] [] := by
    intro  n s e
    refine loop_walk (P := fun s => KS true K sz s.1.1 s.1.2.1 → V x 3 s.1.1 (s.1.2.1 - sz) (600 * (s.1.2.1 - sz)) s.1.2.1 s.1.2.2 62 [(0, .ref (xb x + 0)), (2, vI s.2)] []) (E := fun e => KS true K sz e.1 e.2.1 → V x 3 e.1 (e.2.1 - sz) (600 * (e.2.1 - sz)) e.2.1 e.2.2 80 [(0, .ref (xb x + 0))] []) ?_ n s e
    clear e s n
    rintro ⟨g, l2⟩ qv62 h hc62 he62
    intro hKS
    have hWS := hKS.2.2.2.2 rfl
    have hW := hWS.1
    replace h : x_road_b62 N g l2 = some qv62 := h
    unfold x_road_b62 at h
    show V x 3 g.1 (g.2.1 - sz) (600 * (g.2.1 - sz)) g.2.1 g.2.2 62 [(0, .ref (xb x + 0)), (2, vI l2)] []
    refine V_iload_n X dX1_road_62 1 rfl ?_
    refine V_iconst X dX1_road_63 ?_
    refine V_icmp_ge (tgt := 80) X dX1_road_64 (by decide) h (fun h => ?_) (fun h => ?_)
    · exact V_sub [0] rfl (he62 _ (Option.some.inj h).symm hKS)
    · refine V_aload_n X dX1_road_67 0 rfl ?_
      refine V_get (ci := 0) (N := 18) (C := RX1) (T := TX1) (o := 0) (j := 7) X rfl in_X1 (by decide) (hW.at 0 rfl) (by decide) q484 (fv_1 (i := 13) rfl rfl) dX1_road_68 ?_
      refine V_iload_n X dX1_road_71 1 rfl ?_
      refine V_iconst X dX1_road_72 ?_
      refine V_iast X (o := 13) (n := 3) (hW.at 13 rfl) (by decide) dX1_road_73 h (fun g73 h => ?_)
      refine V_iinc X dX1_road_74 1 rfl (by decide) (L' := [(2, vI (l2 + 1)), (0, .ref (xb x + 0))]) rfl ?_
      refine V_goto (tgt := 62) X dX1_road_77 (by decide) ?_
      exact V_sub [1, 0] rfl (hc62 _ (Option.some.inj h).symm hKS)
  unfold x_road at h
  show V x 3 K (sz - sz) (600 * (sz - sz)) sz g 0 [(0, .ref (xb x + 0)), (1, vI l1)] []
  refine V_aload_n X dX1_road_0 0 rfl ?_
  refine V_iload_n X dX1_road_1 1 rfl ?_
  refine V_iconst X dX1_road_2 ?_
  refine V_aload_n X dX1_road_3 0 rfl ?_
  refine V_get (ci := 0) (N := 18) (C := RX1) (T := TX1) (o := 0) (j := 13) X rfl in_X1 (by decide) (hW.at 0 rfl) (by decide) q490 (fv_0 rfl) dX1_road_4 ?_
  obtain ⟨c7, hc7, h⟩ := bind_some_eq h
  rcases c7 with ⟨e7_, s7_⟩ | y7
  · replace h := thT_l h
    obtain ⟨hm, h⟩ := lim_some h
    have hr := Option.some.inj h
    subst hr
    exact RunA.out (runV_A (ci := 0) (N := 18) (T := TX1) (As := [vI l1, vI 0, vI (gI g 13 0)]) (rest := []) (o := 0) X hKS.2.1 (ConThr.toA (β := Unit) (v := fun _ => (fun _ => none, K, sz, g)) (con_x_within K hW sz g l1 0 (gI g 13 0) (.inl (e7_, s7_)) hc7) hm (hKS.here.kEw _ hm)) gwX1_within_125 hdV_X1_within ⟨Nat.le_of_ble_eq_true rfl, Nat.le_of_ble_eq_true rfl⟩ rfl (by decide) (hW.at 0 rfl) rfl rfl (Nat.le_of_ble_eq_true rfl) dX1_road_7 rfl) hX (by decide) hKS
  replace h := thT_r h
  refine V_callV1 (ci := 0) (N := 18) (T := TX1) (As := [vI l1, vI 0, vI (gI g 13 0)]) (rest := []) (s1 := []) (o := 0) X (con_x_within K hW sz g l1 0 (gI g 13 0) (.inr y7) hc7) gwX1_within_125 hdV_X1_within ⟨Nat.le_of_ble_eq_true rfl, Nat.le_of_ble_eq_true rfl⟩ rfl (by decide) (hW.at 0 rfl) rfl rfl (Nat.le_of_ble_eq_true rfl) (limcc hKS.2.1) dX1_road_7 rfl rfl ?_
  refine V_aload_n X dX1_road_10 0 rfl ?_
  obtain ⟨hm, h⟩ := lim_some h
  have hz11 := hKS.1
  refine V_newA (ci := 27) (N := 4) (C := RX11) (T := TX11) X hX.2.2.2.1 hX.hA hm rfl in_X11 tyX11 tyX11_ok (by decide) (by decide) q784 q785 q110 df_27 dX1_road_11 ?_
  have hKS := hKS.upw (kd := 28) hm rfl
  have hWS := hKS.2.2.2.2 rfl
  have hW := hWS.1
  have hN11 := (ku_self : ku K sz 28 sz = 28)
  refine V_dup X dX1_road_14 rfl ?_
  refine V_aload_n X dX1_road_15 0 rfl ?_
  refine V_iload_n X dX1_road_16 1 rfl ?_
  obtain ⟨c17, hc17, h⟩ := bind_some_eq h
  refine RunA.back (s1 := [.ref (xb x + c17.1), .ref (xb x + sz), .ref (xb x + sz), .ref (xb x + 0)]) (runV_A (ci := 0) (N := 18) (T := TX1) (As := [vI l1]) (rest := [.ref (xb x + sz), .ref (xb x + sz), .ref (xb x + 0)]) (o := 0) X hKS.2.1 (con_x_reader (ku K sz 28) (sz + 1) hKS.here (newI 27 sz y7) l1 c17 hc17) gwX1_reader_131 hdV_X1_reader ⟨Nat.le_of_ble_eq_true rfl, Nat.le_of_ble_eq_true rfl⟩ rfl (by decide) (hW.at 0 rfl) rfl rfl (Nat.le_of_ble_eq_true rfl) dX1_road_17 rfl) X hX.2.2.2.1 hX.hA rfl (fun hKSc => ?_)
  have hN11 := hKS.kp hKSc hN11
  have hKS := hKS.tr hKSc
  have hWS := hKS.2.2.2.2 rfl
  have hW := hWS.1
  obtain ⟨hR17, h⟩ := ckK_some h
  obtain ⟨c20, hc20, h⟩ := bind_some_eq h
  refine V_callIA (As := [.ref (xb x + c17.1)]) (rest := [.ref (xb x + sz), .ref (xb x + 0)]) (s1 := [.ref (xb x + sz), .ref (xb x + 0)]) (o := sz) X hX.2.2.2.1 hX.hA hKS.2.1 (con_xRoadReader_init true N sz c17.1 c17.2.1 c17.2.2.1 hKS.here hN11 hR17 c17.2.2.2 c20 hc20) q809 q810 q110 q811 hdI_X11 ⟨Nat.le_of_ble_eq_true rfl, Nat.le_of_ble_eq_true rfl⟩ rfl rfl (Nat.le_of_ble_eq_true rfl) dX1_road_20 rfl rfl (fun hKSc => ?_)
  have hN11 := hKS.kp hKSc hN11
  have hR17 := hKS.kp hKSc hR17
  have hKS := hKS.tr hKSc
  have hWS := hKS.2.2.2.2 rfl
  have hW := hWS.1
  obtain ⟨hdn, h⟩ := dnP_some h
  refine V_done (ci := 10) (N := 4) (o := sz) X (C := RX11) (T := TX11) rfl rfl (by decide) (by decide) hN11 hdn ?_
  have hR17 := ku_kd (ci := 10) hN11 hR17
  have hKS := hKS.done (ci := 10) (by omega) (by decide) hN11 hdn
  have hWS := hKS.2.2.2.2 rfl
  have hW := hWS.1
  have hN11d := (ku_self : ku c20.1 sz 11 sz = 11)
  obtain ⟨c23, hc23, h⟩ := bind_some_eq h
  rcases c23 with ⟨e23_, s23_⟩ | y23
  · replace h := thT_l h
    obtain ⟨hm, h⟩ := lim_some h
    by_cases he23_3 : e23_ = 3
    · rw [if_pos he23_3] at h
      rw [he23_3] at hc23
      refine RunA.catch (name := "RainWheel$Wrong") (runV_A (ci := 10) (N := 4) (T := TX11) (As := []) (rest := [.ref (xb x + 0)]) (o := sz) X hKS.2.1 (ConThr.toA (β := Unit) (v := fun _ => (fun _ => none, (ku c20.1 sz 11), c20.2.1, (dnI 10 sz c20.2.2))) (con_xRoadReader_reads (ku c20.1 sz 11) hW N sz hN11d c20.2.1 hWS (dnI 10 sz c20.2.2) (.inl (3, s23_)) hc23) hm (hKS.here.kEw _ hm)) gwX1_reads_138 hdV_X11_reads ⟨Nat.le_of_ble_eq_true rfl, Nat.le_of_ble_eq_true rfl⟩ rfl (by decide) hN11d rfl rfl (Nat.le_of_ble_eq_true rfl) dX1_road_23 rfl) X hX.2.2.2.1 hX.hA hX.2.2.2.2 [] (10, 29, 32, 118) [] rfl (fun _ h => nomatch h) (by decide) (by decide) q714 q925 (fun hKSc => ?_)
      have hR17 := hKS.kp hKSc hR17
      have hN11d := hKS.kp hKSc hN11d
      have hKS := hKS.tr hKSc
      have hWS := hKS.2.2.2.2 rfl
      have hW := hWS.1
      obtain ⟨hE23, h⟩ := ckK_some h
      refine V_astore_n X dX1_road_32 (by decide) (L' := [(2, .ref (xb x + c20.2.1)), (0, .ref (xb x + 0)), (1, vI l1)]) rfl ?_
      refine V_aload_n X dX1_road_33 1 rfl ?_
      refine V_aload_n X dX1_road_34 0 rfl ?_
      obtain ⟨c35, hc35, h⟩ := bind_some_eq h
      refine V_callV (ci := 0) (N := 18) (T := TX1) (As := [.ref (xb x + c20.2.1)]) (rest := []) (s1 := [vI c35.1]) (o := 0) X (con_x_faulty (kE 3 (ku c20.1 sz 11) c20.2.1) hW c20.2.1 hE23 s23_ c35 hc35) gwX1_faulty_142 hdV_X1_faulty ⟨Nat.le_of_ble_eq_true rfl, Nat.le_of_ble_eq_true rfl⟩ rfl (by decide) (hW.at 0 rfl) rfl rfl (Nat.le_of_ble_eq_true rfl) (limcc hKS.2.1) dX1_road_35 rfl rfl ?_
      have hr := Option.some.inj h
      subst hr
      exact V_endA_i hX rfl hKS dX1_road_38
    rw [if_neg he23_3] at h
    cases h
  replace h := thT_r h
  refine V_callV1 (ci := 10) (N := 4) (T := TX11) (As := []) (rest := [.ref (xb x + 0)]) (s1 := [.ref (xb x + (sz + 3)), .ref (xb x + 0)]) (o := sz) X (con_xRoadReader_reads (ku c20.1 sz 11) hW N sz hN11d c20.2.1 hWS (dnI 10 sz c20.2.2) (.inr y23) hc23) gwX1_reads_138 hdV_X11_reads ⟨Nat.le_of_ble_eq_true rfl, Nat.le_of_ble_eq_true rfl⟩ rfl (by decide) hN11d rfl rfl (Nat.le_of_ble_eq_true rfl) (limcc hKS.2.1) dX1_road_23 rfl rfl ?_
  refine V_put (ty := (.object "RainWheel$Road")) (ci := 0) (N := 18) (C := RX1) (T := TX1) (o := 0) (j := 12) (a := (((sz + 3) : Nat) : Int)) X rfl in_X1 tyX1 tyX1_ok nmX1 (by decide) (hW.at 0 rfl) (by decide) rfl pfd_LRoad rfl rfl q489 (fv_3i rfl (by rw [gI_sI, if_pos ⟨rfl, rfl⟩])) dX1_road_26 ?_
  refine V_goto (tgt := 39) X dX1_road_29 (by decide) ?_
  refine V_aload_n X dX1_road_39 0 rfl ?_
  refine V_get (ci := 0) (N := 18) (C := RX1) (T := TX1) (o := 0) (j := 2) X rfl in_X1 (by decide) (hW.at 0 rfl) (by decide) q479 (fv_1 (i := 3) rfl rfl) dX1_road_40 ?_
  refine V_iconst X dX1_road_43 ?_
  refine V_putN (ty := .int) (ci := 2) (N := 3) (C := RX3) (T := TX3) (o := 3) (j := 2) (a := 0) X rfl in_X3 tyX3 tyX3_ok nmX3 (by decide) (hW.at 3 rfl) (by decide) rfl pfd_I rfl rfl q160 (by rw [fv_0 rfl, gI_sI, if_pos ⟨rfl, rfl⟩]) dX1_road_44 ?_
  refine V_aload_n X dX1_road_47 0 rfl ?_
  refine V_get (ci := 0) (N := 18) (C := RX1) (T := TX1) (o := 0) (j := 1) X rfl in_X1 (by decide) (hW.at 0 rfl) (by decide) q478 (fv_1 (i := 2) rfl rfl) dX1_road_48 ?_
  refine V_aconst X dX1_road_51 ?_
  refine V_putN (ty := (.object "RainWheel$Term")) (ci := 1) (N := 1) (C := RX2) (T := TX2) (o := 2) (j := 0) (a := (-1)) X rfl in_X2 tyX2 tyX2_ok nmX2 (by decide) (hW.at 2 rfl) (by decide) rfl pfd_LTerm rfl rfl q141 (by rw [fv_3 rfl, gI_sI, if_pos ⟨rfl, rfl⟩]; rfl) dX1_road_52 ?_
  refine V_aload_n X dX1_road_55 0 rfl ?_
  refine V_iconst X dX1_road_56 ?_
  refine V_put (ty := .int) (ci := 0) (N := 18) (C := RX1) (T := TX1) (o := 0) (j := 15) (a := 0) X rfl in_X1 tyX1 tyX1_ok nmX1 (by decide) (hW.at 0 rfl) (by decide) rfl pfd_I rfl rfl q492 (by rw [fv_0 rfl, gI_sI, if_pos ⟨rfl, rfl⟩]) dX1_road_57 ?_
  refine V_iconst X dX1_road_60 ?_
  refine V_istore_n X dX1_road_61 (by decide) (L' := [(2, vI 0), (0, .ref (xb x + 0)), (1, vI l1)]) rfl ?_
  obtain ⟨t1, t1q, h⟩ := bind_some_eq h
  refine V_sub [1, 0] rfl (LL62 N (((ku c20.1 sz 11), c20.2.1, (sI (sI (sI (sI y23 12 0 (((sz + 3) : Nat) : Int)) 202 3 0) 100 2 (-1)) 15 0 0)), 0) _ t1q (fun hKS => ?_) hKS)
  have hWS := hKS.2.2.2.2 rfl
  have hW := hWS.1
  refine V_aload_n X dX1_road_80 0 rfl ?_
  refine V_iconst X dX1_road_81 ?_
  refine V_put (ty := .int) (ci := 0) (N := 18) (C := RX1) (T := TX1) (o := 0) (j := 16) (a := 0) X rfl in_X1 tyX1 tyX1_ok nmX1 (by decide) (hW.at 0 rfl) (by decide) rfl pfd_I rfl rfl q493 (by rw [fv_0 rfl, gI_sI, if_pos ⟨rfl, rfl⟩]) dX1_road_82 ?_
  refine V_aload_n X dX1_road_85 0 rfl ?_
  refine V_iconst X dX1_road_86 ?_
  refine V_put (ty := .int) (ci := 0) (N := 18) (C := RX1) (T := TX1) (o := 0) (j := 17) (a := 0) X rfl in_X1 tyX1 tyX1_ok nmX1 (by decide) (hW.at 0 rfl) (by decide) rfl pfd_I rfl rfl q494 (by rw [fv_0 rfl, gI_sI, if_pos ⟨rfl, rfl⟩]) dX1_road_87 ?_
  refine V_aload_n X dX1_road_90 0 rfl ?_
  obtain ⟨i91, hvi91, hki91, h⟩ := rdR_some h
  refine V_get (ci := 0) (N := 18) (C := RX1) (T := TX1) (o := 0) (j := 12) X rfl in_X1 (by decide) (hW.at 0 rfl) (by decide) q489 (fv_3i rfl hvi91) dX1_road_91 ?_
  refine V_getN (ci := 8) (N := 24) (C := RX9) (T := TX9) (o := i91) (j := 14) X rfl in_X9 (by decide) hki91 (by decide) q404 (fv_0 rfl) dX1_road_94 ?_
  have hr := Option.some.inj h
  subst hr
  exact V_endA_i hX rfl hKS dX1_road_97
set_option maxHeartbeats 4000000 in
theorem con_xLawReader_reads (N : Nat) (o : Nat) (K : Nat → Nat) (sz : Nat) (hKS : KS true K sz K sz) (hK0 : K o = 14) (g : GS) (r : ((Nat × S3) ⊕ (Nat × S3))) (h : xLawReader_reads N o K sz g = some r) : ConA true sz yX14_reads cX14_reads 2 (some (.object "RainWheel$Term")) 241 6621 K (fun b => [.ref (b + o)]) g (fun r => ((fun b => some (.ref (b + r.1))), r.2)) r := by
  refine ConA.of RX14 (by decide) rfl (fun b => Nat.le_of_ble_eq_true rfl) (fun x hX hnm => ?_)
  have X := hX.1
  have h0K := hKS.2.2.1
  have hK0e := hK0
  have hWS := hKS.2.2.2.2 rfl
  have hW := hWS.1
  unfold xLawReader_reads at h
  show V x 2 K (sz - sz) (600 * (sz - sz)) sz g 0 [(0, .ref (xb x + o))] []
  refine V_aload_n X dX14_reads_0 0 rfl ?_
  obtain ⟨c1, hc1, h⟩ := bind_some_eq h
  rcases c1 with ⟨e1_, s1_⟩ | y1
  · replace h := thT_l h
    have hr := Option.some.inj h
    subst hr
    exact RunA.out (runV_A (ci := 13) (N := 2) (T := TX14) (As := []) (rest := []) (o := o) X hKS.2.1 (con_xLawReader_sum N o K sz hKS.here hK0 g (.inl (e1_, s1_)) hc1) gwX14_sum_33 hdV_X14_sum ⟨Nat.le_of_ble_eq_true rfl, Nat.le_of_ble_eq_true rfl⟩ rfl (by decide) hK0 rfl rfl (Nat.le_of_ble_eq_true rfl) dX14_reads_1 rfl) hX (fun _ h => nomatch h) hKS
  replace h := thT_r h
  refine RunA.back (s1 := [.ref (xb x + y1.1)]) (runV_A (ci := 13) (N := 2) (T := TX14) (As := []) (rest := []) (o := o) X hKS.2.1 (con_xLawReader_sum N o K sz hKS.here hK0 g (.inr y1) hc1) gwX14_sum_33 hdV_X14_sum ⟨Nat.le_of_ble_eq_true rfl, Nat.le_of_ble_eq_true rfl⟩ rfl (by decide) hK0 rfl rfl (Nat.le_of_ble_eq_true rfl) dX14_reads_1 rfl) X hX.2.2.2.1 hX.hA rfl (fun hKSc => ?_)
  have hK0 := hKS.kp hKSc hK0
  have hKS := hKS.tr hKSc
  have hWS := hKS.2.2.2.2 rfl
  have hW := hWS.1
  refine V_astore_n X dX14_reads_4 (by decide) (L' := [(1, .ref (xb x + y1.1)), (0, .ref (xb x + o))]) rfl ?_
  refine V_aload_n X dX14_reads_5 1 rfl ?_
  refine V_get (ci := 13) (N := 2) (C := RX14) (T := TX14) (o := o) (j := 1) X rfl in_X14 (by decide) hK0 (by decide) q1012 (fv_1 (i := (o + 1)) rfl rfl) dX14_reads_6 ?_
  obtain ⟨c9, hc9, h⟩ := bind_some_eq h
  rcases c9 with ⟨e9_, s9_⟩ | y9
  · replace h := thT_l h
    obtain ⟨hm, h⟩ := lim_some h
    have hr := Option.some.inj h
    subst hr
    exact RunA.out (runV_A (ci := 11) (N := 4) (T := TX12) (As := []) (rest := []) (o := (o + 1)) X hKS.2.1 (ConThr.toA (β := Unit) (v := fun _ => (fun _ => none, y1.2.1, y1.2.2.1, y1.2.2.2)) (con_xReader_ends y1.2.1 hW N (o + 1) (hW.blk (by decide) hK0 1 (by decide) rfl) y1.2.2.1 hWS y1.2.2.2 (.inl (e9_, s9_)) hc9) hm (hKS.here.kEw _ hm)) gwX14_ends_37 hdV_X12_ends ⟨Nat.le_of_ble_eq_true rfl, Nat.le_of_ble_eq_true rfl⟩ rfl (by decide) (hW.blk (by decide) hK0 1 (by decide) rfl) rfl rfl (Nat.le_of_ble_eq_true rfl) dX14_reads_9 rfl) hX (fun _ h => nomatch h) hKS
  replace h := thT_r h
  refine V_callV1 (ci := 11) (N := 4) (T := TX12) (As := []) (rest := []) (s1 := []) (o := (o + 1)) X (con_xReader_ends y1.2.1 hW N (o + 1) (hW.blk (by decide) hK0 1 (by decide) rfl) y1.2.2.1 hWS y1.2.2.2 (.inr y9) hc9) gwX14_ends_37 hdV_X12_ends ⟨Nat.le_of_ble_eq_true rfl, Nat.le_of_ble_eq_true rfl⟩ rfl (by decide) (hW.blk (by decide) hK0 1 (by decide) rfl) rfl rfl (Nat.le_of_ble_eq_true rfl) (limcc hKS.2.1) dX14_reads_9 rfl rfl ?_
  refine V_aload_n X dX14_reads_12 0 rfl ?_
  have hr := Option.some.inj h
  subst hr
  exact V_endA_a hX rfl hKS dX14_reads_13
set_option maxHeartbeats 4000000 in
theorem con_x_law (N : Nat) (K : Nat → Nat) (sz : Nat) (hKS : KS true K sz K sz) (g : GS) (l1 : Int) (r : ((Nat × S3) ⊕ (Int × S3))) (h : x_law N K sz g l1 = some r) : ConAW [(16, 38, 41, 118)] true sz yX1_law cX1_law 3 (some .int) 242 6642 K (fun b => [.ref (b + 0), vI l1]) g (fun r => ((fun _ => some (vI r.1)), r.2)) r := by
  refine ConAW.of RX1 (by decide) rfl (fun b => Nat.le_of_ble_eq_true rfl) (fun x hX hnm => ?_)
  have X := hX.1
  have h0K := hKS.2.2.1
  have hWS := hKS.2.2.2.2 rfl
  have hW := hWS.1
  unfold x_law at h
  show V x 3 K (sz - sz) (600 * (sz - sz)) sz g 0 [(0, .ref (xb x + 0)), (1, vI l1)] []
  refine V_aload_n X dX1_law_0 0 rfl ?_
  refine V_iload_n X dX1_law_1 1 rfl ?_
  refine V_iconst X dX1_law_2 ?_
  refine V_aload_n X dX1_law_3 0 rfl ?_
  refine V_get (ci := 0) (N := 18) (C := RX1) (T := TX1) (o := 0) (j := 13) X rfl in_X1 (by decide) (hW.at 0 rfl) (by decide) q490 (fv_0 rfl) dX1_law_4 ?_
  refine V_sipush X dX1_law_7 (by decide) ?_
  refine V_min X q997 ⟨Nat.le_of_ble_eq_true rfl, Nat.le_of_ble_eq_true rfl⟩ (Nat.le_of_ble_eq_true rfl) (limcc hKS.2.1) dX1_law_10 ?_
  obtain ⟨c13, hc13, h⟩ := bind_some_eq h
  rcases c13 with ⟨e13_, s13_⟩ | y13
  · replace h := thT_l h
    obtain ⟨hm, h⟩ := lim_some h
    have hr := Option.some.inj h
    subst hr
    exact RunA.out (runV_A (ci := 0) (N := 18) (T := TX1) (As := [vI l1, vI 0, vI (imin (gI g 13 0) 150)]) (rest := []) (o := 0) X hKS.2.1 (ConThr.toA (β := Unit) (v := fun _ => (fun _ => none, K, sz, g)) (con_x_within K hW sz g l1 0 (imin (gI g 13 0) 150) (.inl (e13_, s13_)) hc13) hm (hKS.here.kEw _ hm)) gwX1_within_125 hdV_X1_within ⟨Nat.le_of_ble_eq_true rfl, Nat.le_of_ble_eq_true rfl⟩ rfl (by decide) (hW.at 0 rfl) rfl rfl (Nat.le_of_ble_eq_true rfl) dX1_law_13 rfl) hX (by decide) hKS
  replace h := thT_r h
  refine V_callV1 (ci := 0) (N := 18) (T := TX1) (As := [vI l1, vI 0, vI (imin (gI g 13 0) 150)]) (rest := []) (s1 := []) (o := 0) X (con_x_within K hW sz g l1 0 (imin (gI g 13 0) 150) (.inr y13) hc13) gwX1_within_125 hdV_X1_within ⟨Nat.le_of_ble_eq_true rfl, Nat.le_of_ble_eq_true rfl⟩ rfl (by decide) (hW.at 0 rfl) rfl rfl (Nat.le_of_ble_eq_true rfl) (limcc hKS.2.1) dX1_law_13 rfl rfl ?_
  refine V_aload_n X dX1_law_16 0 rfl ?_
  refine V_get (ci := 0) (N := 18) (C := RX1) (T := TX1) (o := 0) (j := 1) X rfl in_X1 (by decide) (hW.at 0 rfl) (by decide) q478 (fv_1 (i := 2) rfl rfl) dX1_law_17 ?_
  obtain ⟨hm, h⟩ := lim_some h
  have hz20 := hKS.1
  refine V_newA (ci := 30) (N := 2) (C := RX14) (T := TX14) X hX.2.2.2.1 hX.hA hm rfl in_X14 tyX14 tyX14_ok (by decide) (by decide) q998 q999 q118 df_30 dX1_law_20 ?_
  have hKS := hKS.upw (kd := 31) hm rfl
  have hWS := hKS.2.2.2.2 rfl
  have hW := hWS.1
  have hN20 := (ku_self : ku K sz 31 sz = 31)
  refine V_dup X dX1_law_23 rfl ?_
  refine V_aload_n X dX1_law_24 0 rfl ?_
  refine V_iload_n X dX1_law_25 1 rfl ?_
  obtain ⟨c26, hc26, h⟩ := bind_some_eq h
  refine RunA.back (s1 := [.ref (xb x + c26.1), .ref (xb x + sz), .ref (xb x + sz), .ref (xb x + 2)]) (runV_A (ci := 0) (N := 18) (T := TX1) (As := [vI l1]) (rest := [.ref (xb x + sz), .ref (xb x + sz), .ref (xb x + 2)]) (o := 0) X hKS.2.1 (con_x_reader (ku K sz 31) (sz + 1) hKS.here (newI 30 sz y13) l1 c26 hc26) gwX1_reader_131 hdV_X1_reader ⟨Nat.le_of_ble_eq_true rfl, Nat.le_of_ble_eq_true rfl⟩ rfl (by decide) (hW.at 0 rfl) rfl rfl (Nat.le_of_ble_eq_true rfl) dX1_law_26 rfl) X hX.2.2.2.1 hX.hA rfl (fun hKSc => ?_)
  have hN20 := hKS.kp hKSc hN20
  have hKS := hKS.tr hKSc
  have hWS := hKS.2.2.2.2 rfl
  have hW := hWS.1
  obtain ⟨hR26, h⟩ := ckK_some h
  obtain ⟨c29, hc29, h⟩ := bind_some_eq h
  refine V_callIA (As := [.ref (xb x + c26.1)]) (rest := [.ref (xb x + sz), .ref (xb x + 2)]) (s1 := [.ref (xb x + sz), .ref (xb x + 2)]) (o := sz) X hX.2.2.2.1 hX.hA hKS.2.1 (con_xLawReader_init true sz c26.1 c26.2.1 c26.2.2.1 hKS.here hN20 hR26 c26.2.2.2 c29 hc29) q1000 q1001 q118 q1002 hdI_X14 ⟨Nat.le_of_ble_eq_true rfl, Nat.le_of_ble_eq_true rfl⟩ rfl rfl (Nat.le_of_ble_eq_true rfl) dX1_law_29 rfl rfl (fun hKSc => ?_)
  have hN20 := hKS.kp hKSc hN20
  have hR26 := hKS.kp hKSc hR26
  have hKS := hKS.tr hKSc
  have hWS := hKS.2.2.2.2 rfl
  have hW := hWS.1
  obtain ⟨hdn, h⟩ := dnP_some h
  refine V_done (ci := 13) (N := 2) (o := sz) X (C := RX14) (T := TX14) rfl rfl (by decide) (by decide) hN20 hdn ?_
  have hR26 := ku_kd (ci := 13) hN20 hR26
  have hKS := hKS.done (ci := 13) (by omega) (by decide) hN20 hdn
  have hWS := hKS.2.2.2.2 rfl
  have hW := hWS.1
  have hN20d := (ku_self : ku c29.1 sz 14 sz = 14)
  obtain ⟨c32, hc32, h⟩ := bind_some_eq h
  rcases c32 with ⟨e32_, s32_⟩ | y32
  · replace h := thT_l h
    dsimp only at h
    by_cases he32_3 : e32_ = 3
    · rw [if_pos he32_3] at h
      rw [he32_3] at hc32
      refine RunA.catch (name := "RainWheel$Wrong") (runV_A (ci := 13) (N := 2) (T := TX14) (As := []) (rest := [.ref (xb x + 2)]) (o := sz) X hKS.2.1 (con_xLawReader_reads N sz (ku c29.1 sz 14) c29.2.1 hKS.here hN20d (dnI 13 sz c29.2.2) (.inl (3, s32_)) hc32) gwX1_reads_166 hdV_X14_reads ⟨Nat.le_of_ble_eq_true rfl, Nat.le_of_ble_eq_true rfl⟩ rfl (by decide) hN20d rfl rfl (Nat.le_of_ble_eq_true rfl) dX1_law_32 rfl) X hX.2.2.2.1 hX.hA hX.2.2.2.2 [] (16, 38, 41, 118) [] rfl (fun _ h => nomatch h) (by decide) (by decide) q714 q925 (fun hKSc => ?_)
      have hR26 := hKS.kp hKSc hR26
      have hN20d := hKS.kp hKSc hN20d
      have hKS := hKS.tr hKSc
      have hWS := hKS.2.2.2.2 rfl
      have hW := hWS.1
      obtain ⟨hE32, h⟩ := ckK_some h
      refine V_astore_n X dX1_law_41 (by decide) (L' := [(2, .ref (xb x + (s32_.2.1 - 1))), (0, .ref (xb x + 0)), (1, vI l1)]) rfl ?_
      refine V_aload_n X dX1_law_42 1 rfl ?_
      refine V_aload_n X dX1_law_43 0 rfl ?_
      obtain ⟨c44, hc44, h⟩ := bind_some_eq h
      refine V_callV (ci := 0) (N := 18) (T := TX1) (As := [.ref (xb x + (s32_.2.1 - 1))]) (rest := []) (s1 := [vI c44.1]) (o := 0) X (con_x_faulty s32_.1 hW (s32_.2.1 - 1) hE32 s32_.2.2 c44 hc44) gwX1_faulty_142 hdV_X1_faulty ⟨Nat.le_of_ble_eq_true rfl, Nat.le_of_ble_eq_true rfl⟩ rfl (by decide) (hW.at 0 rfl) rfl rfl (Nat.le_of_ble_eq_true rfl) (limcc hKS.2.1) dX1_law_44 rfl rfl ?_
      have hr := Option.some.inj h
      subst hr
      exact V_endA_i hX rfl hKS dX1_law_47
    rw [if_neg he32_3] at h
    cases h
  replace h := thT_r h
  refine RunA.back (s1 := [.ref (xb x + y32.1), .ref (xb x + 2)]) (runV_A (ci := 13) (N := 2) (T := TX14) (As := []) (rest := [.ref (xb x + 2)]) (o := sz) X hKS.2.1 (con_xLawReader_reads N sz (ku c29.1 sz 14) c29.2.1 hKS.here hN20d (dnI 13 sz c29.2.2) (.inr y32) hc32) gwX1_reads_166 hdV_X14_reads ⟨Nat.le_of_ble_eq_true rfl, Nat.le_of_ble_eq_true rfl⟩ rfl (by decide) hN20d rfl rfl (Nat.le_of_ble_eq_true rfl) dX1_law_32 rfl) X hX.2.2.2.1 hX.hA rfl (fun hKSc => ?_)
  have hR26 := hKS.kp hKSc hR26
  have hN20d := hKS.kp hKSc hN20d
  have hKS := hKS.tr hKSc
  have hWS := hKS.2.2.2.2 rfl
  have hW := hWS.1
  refine V_putN (ty := (.object "RainWheel$Term")) (ci := 1) (N := 1) (C := RX2) (T := TX2) (o := 2) (j := 0) (a := ((y32.1 : Nat) : Int)) X rfl in_X2 tyX2 tyX2_ok nmX2 (by decide) (hW.at 2 rfl) (by decide) rfl pfd_LTerm rfl rfl q141 (fv_3i rfl (by rw [gI_sI, if_pos ⟨rfl, rfl⟩])) dX1_law_35 ?_
  refine V_goto (tgt := 48) X dX1_law_38 (by decide) ?_
  refine V_iconst X dX1_law_48 ?_
  have hr := Option.some.inj h
  subst hr
  exact V_endA_i hX rfl hKS dX1_law_49
set_option maxHeartbeats 4000000 in
theorem con_x_plan (N : Nat) (K : Nat → Nat) (sz : Nat) (hKS : KS true K sz K sz) (g : GS) (l1 : Int) (r : ((Nat × S3) ⊕ (Int × S3))) (h : x_plan N K sz g l1 = some r) : ConAW [(24, 37, 40, 118)] true sz yX1_plan cX1_plan 4 (some .int) 9 212 K (fun b => [.ref (b + 0), vI l1]) g (fun r => ((fun _ => some (vI r.1)), r.2)) r := by
  refine ConAW.of RX1 (by decide) rfl (fun b => Nat.le_of_ble_eq_true rfl) (fun x hX hnm => ?_)
  have X := hX.1
  have h0K := hKS.2.2.1
  have hWS := hKS.2.2.2.2 rfl
  have hW := hWS.1
  unfold x_plan at h
  show V x 4 K (sz - sz) (600 * (sz - sz)) sz g 0 [(0, .ref (xb x + 0)), (1, vI l1)] []
  refine V_aload_n X dX1_plan_0 0 rfl ?_
  refine V_iload_n X dX1_plan_1 1 rfl ?_
  refine V_iconst X dX1_plan_2 ?_
  refine V_aload_n X dX1_plan_3 0 rfl ?_
  refine V_get (ci := 0) (N := 18) (C := RX1) (T := TX1) (o := 0) (j := 13) X rfl in_X1 (by decide) (hW.at 0 rfl) (by decide) q490 (fv_0 rfl) dX1_plan_4 ?_
  refine V_sipush X dX1_plan_7 (by decide) ?_
  refine V_min X q997 ⟨Nat.le_of_ble_eq_true rfl, Nat.le_of_ble_eq_true rfl⟩ (Nat.le_of_ble_eq_true rfl) (limcc hKS.2.1) dX1_plan_10 ?_
  obtain ⟨c13, hc13, h⟩ := bind_some_eq h
  rcases c13 with ⟨e13_, s13_⟩ | y13
  · replace h := thT_l h
    obtain ⟨hm, h⟩ := lim_some h
    have hr := Option.some.inj h
    subst hr
    exact RunA.out (runV_A (ci := 0) (N := 18) (T := TX1) (As := [vI l1, vI 0, vI (imin (gI g 13 0) 150)]) (rest := []) (o := 0) X hKS.2.1 (ConThr.toA (β := Unit) (v := fun _ => (fun _ => none, K, sz, g)) (con_x_within K hW sz g l1 0 (imin (gI g 13 0) 150) (.inl (e13_, s13_)) hc13) hm (hKS.here.kEw _ hm)) gwX1_within_125 hdV_X1_within ⟨Nat.le_of_ble_eq_true rfl, Nat.le_of_ble_eq_true rfl⟩ rfl (by decide) (hW.at 0 rfl) rfl rfl (Nat.le_of_ble_eq_true rfl) dX1_plan_13 rfl) hX (by decide) hKS
  replace h := thT_r h
  refine V_callV1 (ci := 0) (N := 18) (T := TX1) (As := [vI l1, vI 0, vI (imin (gI g 13 0) 150)]) (rest := []) (s1 := []) (o := 0) X (con_x_within K hW sz g l1 0 (imin (gI g 13 0) 150) (.inr y13) hc13) gwX1_within_125 hdV_X1_within ⟨Nat.le_of_ble_eq_true rfl, Nat.le_of_ble_eq_true rfl⟩ rfl (by decide) (hW.at 0 rfl) rfl rfl (Nat.le_of_ble_eq_true rfl) (limcc hKS.2.1) dX1_plan_13 rfl rfl ?_
  obtain ⟨hm, h⟩ := lim_some h
  have hz16 := hKS.1
  refine V_newA (ci := 19) (N := 3) (C := RX3) (T := TX3) X hX.2.2.2.1 hX.hA hm rfl in_X3 tyX3 tyX3_ok (by decide) (by decide) q146 q147 q98 df_19 dX1_plan_16 ?_
  have hKS := hKS.upw (kd := 20) hm rfl
  have hWS := hKS.2.2.2.2 rfl
  have hW := hWS.1
  have hN16 := (ku_self : ku K sz 20 sz = 20)
  refine V_dup X dX1_plan_19 rfl ?_
  obtain ⟨c20, hc20, h⟩ := bind_some_eq h
  refine V_callINA (As := []) (rest := [.ref (xb x + sz)]) (s1 := [.ref (xb x + sz)]) (o := sz) X hX.2.2.2.1 hX.hA hKS.2.1 (con_xPlan_init true sz (ku K sz 20) (sz + 1) hKS.here hN16 (newI 19 sz y13) c20 hc20) q148 q149 q98 q150 hdI_X3 ⟨Nat.le_of_ble_eq_true rfl, Nat.le_of_ble_eq_true rfl⟩ rfl rfl (Nat.le_of_ble_eq_true rfl) dX1_plan_20 rfl rfl (fun hKSc => ?_)
  have hN16 := hKS.kp hKSc hN16
  have hKS := hKS.tr hKSc
  have hWS := hKS.2.2.2.2 rfl
  have hW := hWS.1
  obtain ⟨hdn, h⟩ := dnP_some h
  refine V_done (ci := 2) (N := 3) (o := sz) X (C := RX3) (T := TX3) rfl rfl (by decide) (by decide) hN16 hdn ?_
  have hKS := hKS.done (ci := 2) (by omega) (by decide) hN16 hdn
  have hWS := hKS.2.2.2.2 rfl
  have hW := hWS.1
  have hN16d := (ku_self : ku c20.1 sz 3 sz = 3)
  refine V_astore_n X dX1_plan_23 (by decide) (L' := [(2, .ref (xb x + sz)), (0, .ref (xb x + 0)), (1, vI l1)]) rfl ?_
  refine V_aload_n X dX1_plan_24 0 rfl ?_
  refine V_aload_n X dX1_plan_25 1 rfl ?_
  refine V_iload_n X dX1_plan_26 2 rfl ?_
  obtain ⟨c27, hc27, h⟩ := bind_some_eq h
  refine RunA.back (s1 := [.ref (xb x + c27.1), .ref (xb x + sz)]) (runV_A (ci := 0) (N := 18) (T := TX1) (As := [vI l1]) (rest := [.ref (xb x + sz)]) (o := 0) X hKS.2.1 (con_x_reader (ku c20.1 sz 3) c20.2.1 hKS.here (dnI 2 sz c20.2.2) l1 c27 hc27) gwX1_reader_131 hdV_X1_reader ⟨Nat.le_of_ble_eq_true rfl, Nat.le_of_ble_eq_true rfl⟩ rfl (by decide) (hW.at 0 rfl) rfl rfl (Nat.le_of_ble_eq_true rfl) dX1_plan_27 rfl) X hX.2.2.2.1 hX.hA rfl (fun hKSc => ?_)
  have hN16d := hKS.kp hKSc hN16d
  have hKS := hKS.tr hKSc
  have hWS := hKS.2.2.2.2 rfl
  have hW := hWS.1
  obtain ⟨hR27, h⟩ := ckK_some h
  refine V_aload_n X dX1_plan_30 1 rfl ?_
  obtain ⟨i31, hvi31, hki31, h⟩ := rdR_some h
  refine V_get (ci := 0) (N := 18) (C := RX1) (T := TX1) (o := 0) (j := 12) X rfl in_X1 (by decide) (hW.at 0 rfl) (by decide) q489 (fv_3i rfl hvi31) dX1_plan_31 ?_
  obtain ⟨c34, hc34, h⟩ := bind_some_eq h
  rcases c34 with ⟨e34_, s34_⟩ | y34
  · replace h := thT_l h
    obtain ⟨hm, h⟩ := lim_some h
    by_cases he34_3 : e34_ = 3
    · rw [if_pos he34_3] at h
      rw [he34_3] at hc34
      refine RunA.catch (name := "RainWheel$Wrong") (runV_A (ci := 2) (N := 3) (T := TX3) (As := [.ref (xb x + c27.1), .ref (xb x + i31)]) (rest := []) (o := sz) X hKS.2.1 (ConThr.toA (β := Unit) (v := fun _ => (fun _ => none, c27.2.1, c27.2.2.1, c27.2.2.2)) (con_xPlan_reads c27.2.1 hW N sz hN16d c27.1 hR27 i31 hki31 c27.2.2.1 hWS c27.2.2.2 (.inl (3, s34_)) hc34) hm (hKS.here.kEw _ hm)) gwX1_reads_169 hdV_X3_reads ⟨Nat.le_of_ble_eq_true rfl, Nat.le_of_ble_eq_true rfl⟩ rfl (by decide) hN16d rfl rfl (Nat.le_of_ble_eq_true rfl) dX1_plan_34 rfl) X hX.2.2.2.1 hX.hA hX.2.2.2.2 [] (24, 37, 40, 118) [] rfl (fun _ h => nomatch h) (by decide) (by decide) q714 q925 (fun hKSc => ?_)
      have hN16d := hKS.kp hKSc hN16d
      have hR27 := hKS.kp hKSc hR27
      have hki31 := hKS.kp hKSc hki31
      have hKS := hKS.tr hKSc
      have hWS := hKS.2.2.2.2 rfl
      have hW := hWS.1
      obtain ⟨hE34, h⟩ := ckK_some h
      refine V_astore_n X dX1_plan_40 (by decide) (L' := [(3, .ref (xb x + c27.2.2.1)), (2, .ref (xb x + sz)), (0, .ref (xb x + 0)), (1, vI l1)]) rfl ?_
      refine V_aload_n X dX1_plan_41 2 rfl ?_
      refine V_aload_n X dX1_plan_42 0 rfl ?_
      obtain ⟨c43, hc43, h⟩ := bind_some_eq h
      refine V_callV (ci := 0) (N := 18) (T := TX1) (As := [.ref (xb x + c27.2.2.1)]) (rest := []) (s1 := [vI c43.1]) (o := 0) X (con_x_faulty (kE 3 c27.2.1 c27.2.2.1) hW c27.2.2.1 hE34 s34_ c43 hc43) gwX1_faulty_142 hdV_X1_faulty ⟨Nat.le_of_ble_eq_true rfl, Nat.le_of_ble_eq_true rfl⟩ rfl (by decide) (hW.at 0 rfl) rfl rfl (Nat.le_of_ble_eq_true rfl) (limcc hKS.2.1) dX1_plan_43 rfl rfl ?_
      have hr := Option.some.inj h
      subst hr
      exact V_endA_i hX rfl hKS dX1_plan_46
    rw [if_neg he34_3] at h
    cases h
  replace h := thT_r h
  refine V_callV1 (ci := 2) (N := 3) (T := TX3) (As := [.ref (xb x + c27.1), .ref (xb x + i31)]) (rest := []) (s1 := []) (o := sz) X (con_xPlan_reads c27.2.1 hW N sz hN16d c27.1 hR27 i31 hki31 c27.2.2.1 hWS c27.2.2.2 (.inr y34) hc34) gwX1_reads_169 hdV_X3_reads ⟨Nat.le_of_ble_eq_true rfl, Nat.le_of_ble_eq_true rfl⟩ rfl (by decide) hN16d rfl rfl (Nat.le_of_ble_eq_true rfl) (limcc hKS.2.1) dX1_plan_34 rfl rfl ?_
  refine V_goto (tgt := 47) X dX1_plan_37 (by decide) ?_
  refine V_aload_n X dX1_plan_47 1 rfl ?_
  refine V_get (ci := 0) (N := 18) (C := RX1) (T := TX1) (o := 0) (j := 2) X rfl in_X1 (by decide) (hW.at 0 rfl) (by decide) q479 (fv_1 (i := 3) rfl rfl) dX1_plan_48 ?_
  refine V_aload_n X dX1_plan_51 0 rfl ?_
  obtain ⟨c52, hc52, h⟩ := bind_some_eq h
  refine V_callV (ci := 2) (N := 3) (T := TX3) (As := [.ref (xb x + sz)]) (rest := []) (s1 := [.ref (xb x + 3)]) (o := 3) X (con_xPlan_as c27.2.1 hW 3 (hW.at 3 rfl) sz hN16d y34 c52 hc52) gwX1_as_172 hdV_X3_as ⟨Nat.le_of_ble_eq_true rfl, Nat.le_of_ble_eq_true rfl⟩ rfl (by decide) (hW.at 3 rfl) rfl rfl (Nat.le_of_ble_eq_true rfl) (limcc hKS.2.1) dX1_plan_52 rfl rfl ?_
  refine V_pop X dX1_plan_55 rfl ?_
  refine V_aload_n X dX1_plan_56 1 rfl ?_
  refine V_iconst X dX1_plan_57 ?_
  refine V_put (ty := .int) (ci := 0) (N := 18) (C := RX1) (T := TX1) (o := 0) (j := 16) (a := 0) X rfl in_X1 tyX1 tyX1_ok nmX1 (by decide) (hW.at 0 rfl) (by decide) rfl pfd_I rfl rfl q493 (by rw [fv_0 rfl, gI_sI, if_pos ⟨rfl, rfl⟩]) dX1_plan_58 ?_
  refine V_aload_n X dX1_plan_61 1 rfl ?_
  refine V_get (ci := 0) (N := 18) (C := RX1) (T := TX1) (o := 0) (j := 2) X rfl in_X1 (by decide) (hW.at 0 rfl) (by decide) q479 (fv_1 (i := 3) rfl rfl) dX1_plan_62 ?_
  refine V_getN (ci := 2) (N := 3) (C := RX3) (T := TX3) (o := 3) (j := 2) X rfl in_X3 (by decide) (hW.at 3 rfl) (by decide) q160 (fv_0 rfl) dX1_plan_65 ?_
  have hr := Option.some.inj h
  subst hr
  exact V_endA_i hX rfl hKS dX1_plan_68
set_option maxHeartbeats 4000000 in
theorem con_x_book (N : Nat) (K : Nat → Nat) (sz : Nat) (hKS : KS true K sz K sz) (g : GS) (l1 : Int) (r : ((Nat × S3) ⊕ (Int × S3))) (h : x_book N K sz g l1 = some r) : ConAW [(33, 112, 115, 118)] true sz yX1_book cX1_book 8 (some .int) 8 203 K (fun b => [.ref (b + 0), vI l1]) g (fun r => ((fun _ => some (vI r.1)), r.2)) r := by
  refine ConAW.of RX1 (by decide) rfl (fun b => Nat.le_of_ble_eq_true rfl) (fun x hX hnm => ?_)
  have X := hX.1
  have h0K := hKS.2.2.1
  have hWS := hKS.2.2.2.2 rfl
  have hW := hWS.1
  have LL40 : ∀ (l2 : Nat) (l4 : Nat) (n : Nat) (s : (S3 × Int)) (e : ((Nat × S3) ⊕ (Int × S3))), loopN (fun s => x_book_b40 N l2 l4 s.1 s.2) n s = some e → (e = r) → KS true K sz s.1.1 s.1.2.1 → V x 8 s.1.1 (s.1.2.1 - sz) (600 * (s.1.2.1 - sz)) s.1.2.1 s.1.2.2 40 [(0, .ref (xb x + 0)), (2, .ref (xb x + l2)), (3, vI s.2), (4, .ref (xb x + l4))] [] := by
    intro l2 l4 n s e
    refine loop_walk (P := fun s => KS true K sz s.1.1 s.1.2.1 → V x 8 s.1.1 (s.1.2.1 - sz) (600 * (s.1.2.1 - sz)) s.1.2.1 s.1.2.2 40 [(0, .ref (xb x + 0)), (2, .ref (xb x + l2)), (3, vI s.2), (4, .ref (xb x + l4))] []) (E := fun e => e = r) ?_ n s e
    clear e s n
    rintro ⟨g, l3⟩ qv40 h hc40 he40
    intro hKS
    have hWS := hKS.2.2.2.2 rfl
    have hW := hWS.1
    replace h : x_book_b40 N l2 l4 g l3 = some qv40 := h
    unfold x_book_b40 at h
    show V x 8 g.1 (g.2.1 - sz) (600 * (g.2.1 - sz)) g.2.1 g.2.2 40 [(0, .ref (xb x + 0)), (2, .ref (xb x + l2)), (3, vI l3), (4, .ref (xb x + l4))] []
    obtain ⟨hKl2, h⟩ := ckK_some h
    obtain ⟨hKl4, h⟩ := ckK_some h
    refine V_aload X dX1_book_40 3 rfl ?_
    obtain ⟨c42, hc42, h⟩ := bind_some_eq h
    refine V_callV (ci := 11) (N := 4) (T := TX12) (As := []) (rest := []) (s1 := [vI c42.1]) (o := l4) X (con_xReader_now g.1 hW N l4 hKl4 g.2.2 c42 hc42) gwX1_now_176 hdV_X12_now ⟨Nat.le_of_ble_eq_true rfl, Nat.le_of_ble_eq_true rfl⟩ rfl (by decide) hKl4 rfl rfl (Nat.le_of_ble_eq_true rfl) (limcc hKS.2.1) dX1_book_42 rfl rfl ?_
    refine V_iconst X dX1_book_45 ?_
    refine V_icmp_eq (tgt := 112) X dX1_book_46 (by decide) h (fun h => ?_) (fun h => ?_)
    · obtain ⟨e1, h, e1q⟩ := outR_some h
      replace h := h.trans (congrArg some (he40 _ e1q))
      refine V_goto (tgt := 124) X dX1_book_112 (by decide) ?_
      refine V_aload_n X dX1_book_124 0 rfl ?_
      refine V_iload_n X dX1_book_125 2 rfl ?_
      refine V_put (ty := .int) (ci := 0) (N := 18) (C := RX1) (T := TX1) (o := 0) (j := 15) (a := l3) X rfl in_X1 tyX1 tyX1_ok nmX1 (by decide) (hW.at 0 rfl) (by decide) rfl pfd_I rfl rfl q492 (by rw [fv_0 rfl, gI_sI, if_pos ⟨rfl, rfl⟩]) dX1_book_126 ?_
      refine V_aload_n X dX1_book_129 1 rfl ?_
      refine V_iconst X dX1_book_130 ?_
      refine V_aload_n X dX1_book_131 0 rfl ?_
      refine V_get (ci := 0) (N := 18) (C := RX1) (T := TX1) (o := 0) (j := 7) X rfl in_X1 (by decide) (hW.at 0 rfl) (by decide) q484 (fv_1 (i := 13) rfl rfl) dX1_book_132 ?_
      refine V_iconst X dX1_book_135 ?_
      refine V_iconst X dX1_book_136 ?_
      refine V_acopy (s0 := l2) (d0 := 13) (n0 := 3) (n1 := 3) (n := 3) X q1124 hKl2 (by decide) (hW.at 13 rfl) (by decide) (by decide) (by decide) (Nat.le_of_ble_eq_true rfl) (Nat.le_of_ble_eq_true rfl) dX1_book_137 ?_
      refine V_iload_n X dX1_book_140 2 rfl ?_
      have hr := Option.some.inj h
      subst hr
      exact V_endA_i hX rfl hKS dX1_book_141
    · refine V_aload X dX1_book_49 3 rfl ?_
      obtain ⟨c51, hc51, h⟩ := bind_some_eq h
      refine V_callV (ci := 11) (N := 4) (T := TX12) (As := []) (rest := []) (s1 := [vI c51.1]) (o := l4) X (con_xReader_place g.1 hW N l4 hKl4 c42.2 c51 hc51) gwX1_place_180 hdV_X12_place ⟨Nat.le_of_ble_eq_true rfl, Nat.le_of_ble_eq_true rfl⟩ rfl (by decide) hKl4 rfl rfl (Nat.le_of_ble_eq_true rfl) (limcc hKS.2.1) dX1_book_51 rfl rfl ?_
      refine V_istore X dX1_book_54 (by decide) (L' := [(5, vI c51.1), (0, .ref (xb x + 0)), (2, .ref (xb x + l2)), (3, vI l3), (4, .ref (xb x + l4))]) rfl ?_
      refine V_aload X dX1_book_56 4 rfl ?_
      refine V_iconst X dX1_book_58 ?_
      refine V_iconst X dX1_book_59 ?_
      obtain ⟨c60, hc60, h⟩ := bind_some_eq h
      rcases c60 with ⟨e60_, s60_⟩ | y60
      · replace h := thT_l h
        obtain ⟨hm, h⟩ := lim_some h
        by_cases he60_3 : e60_ = 3
        · rw [if_pos he60_3] at h
          rw [he60_3] at hc60
          refine RunA.catch (name := "RainWheel$Wrong") (runV_A (ci := 11) (N := 4) (T := TX12) (As := [vI 0, vI 2]) (rest := []) (o := l4) X hKS.2.1 (ConThr.toA (β := Unit) (v := fun _ => (fun _ => none, g.1, g.2.1, c51.2)) (con_xReader_number g.1 hW N l4 hKl4 g.2.1 hWS c51.2 0 2 (.inl (3, s60_)) hc60) hm (hKS.here.kEw _ hm)) gwX1_number_182 hdV_X12_number ⟨Nat.le_of_ble_eq_true rfl, Nat.le_of_ble_eq_true rfl⟩ rfl (by decide) hKl4 rfl rfl (Nat.le_of_ble_eq_true rfl) dX1_book_60 rfl) X hX.2.2.2.1 hX.hA hX.2.2.2.2 [] (33, 112, 115, 118) [] rfl (fun _ h => nomatch h) (by decide) (by decide) q714 q925 (fun hKSc => ?_)
          have hKl2 := hKS.kp hKSc hKl2
          have hKl4 := hKS.kp hKSc hKl4
          have hKS := hKS.tr hKSc
          have hWS := hKS.2.2.2.2 rfl
          have hW := hWS.1
          obtain ⟨hE60, h⟩ := ckK_some h
          obtain ⟨e2, h, e2q⟩ := outR_some h
          replace h := h.trans (congrArg some (he40 _ e2q))
          refine V_astore X dX1_book_115 (by decide) (L' := [(4, .ref (xb x + g.2.1)), (5, vI c51.1), (0, .ref (xb x + 0)), (2, .ref (xb x + l2)), (3, vI l3)]) rfl ?_
          refine V_aload_n X dX1_book_117 2 rfl ?_
          refine V_aload X dX1_book_118 0 rfl ?_
          obtain ⟨c120, hc120, h⟩ := bind_some_eq h
          refine V_callV (ci := 0) (N := 18) (T := TX1) (As := [.ref (xb x + g.2.1)]) (rest := []) (s1 := [vI c120.1]) (o := 0) X (con_x_faulty (kE 3 g.1 g.2.1) hW g.2.1 hE60 s60_ c120 hc120) gwX1_faulty_142 hdV_X1_faulty ⟨Nat.le_of_ble_eq_true rfl, Nat.le_of_ble_eq_true rfl⟩ rfl (by decide) (hW.at 0 rfl) rfl rfl (Nat.le_of_ble_eq_true rfl) (limcc hKS.2.1) dX1_book_120 rfl rfl ?_
          have hr := Option.some.inj h
          subst hr
          exact V_endA_i hX rfl hKS dX1_book_123
        rw [if_neg he60_3] at h
        cases h
      replace h := thT_r h
      refine V_callV1 (ci := 11) (N := 4) (T := TX12) (As := [vI 0, vI 2]) (rest := []) (s1 := [vI y60.1]) (o := l4) X (con_xReader_number g.1 hW N l4 hKl4 g.2.1 hWS c51.2 0 2 (.inr y60) hc60) gwX1_number_182 hdV_X12_number ⟨Nat.le_of_ble_eq_true rfl, Nat.le_of_ble_eq_true rfl⟩ rfl (by decide) hKl4 rfl rfl (Nat.le_of_ble_eq_true rfl) (limcc hKS.2.1) dX1_book_60 rfl rfl ?_
      refine V_istore X dX1_book_63 (by decide) (L' := [(6, vI y60.1), (5, vI c51.1), (0, .ref (xb x + 0)), (2, .ref (xb x + l2)), (3, vI l3), (4, .ref (xb x + l4))]) rfl ?_
      refine V_aload_n X dX1_book_65 3 rfl ?_
      refine V_iload X dX1_book_66 0 rfl ?_
      refine V_iald X (o := l2) (n := 3) hKl2 (by decide) dX1_book_68 h (fun v68 h => ?_)
      refine V_iconst X dX1_book_69 ?_
      refine V_icmp_eq (tgt := 84) X dX1_book_70 (by decide) h (fun h => ?_) (fun h => ?_)
      · refine V_aload X dX1_book_84 5 rfl ?_
        refine V_iconst X dX1_book_86 ?_
        refine V_iconst X dX1_book_87 ?_
        obtain ⟨c88, hc88, h⟩ := bind_some_eq h
        rcases c88 with ⟨e88_, s88_⟩ | y88
        · replace h := thT_l h
          obtain ⟨hm, h⟩ := lim_some h
          by_cases he88_3 : e88_ = 3
          · rw [if_pos he88_3] at h
            rw [he88_3] at hc88
            refine RunA.catch (name := "RainWheel$Wrong") (runV_A (ci := 11) (N := 4) (T := TX12) (As := [vI 0, vI 1]) (rest := []) (o := l4) X hKS.2.1 (ConThr.toA (β := Unit) (v := fun _ => (fun _ => none, g.1, g.2.1, y60.2)) (con_xReader_number g.1 hW N l4 hKl4 g.2.1 hWS y60.2 0 1 (.inl (3, s88_)) hc88) hm (hKS.here.kEw _ hm)) gwX1_number_182 hdV_X12_number ⟨Nat.le_of_ble_eq_true rfl, Nat.le_of_ble_eq_true rfl⟩ rfl (by decide) hKl4 rfl rfl (Nat.le_of_ble_eq_true rfl) dX1_book_88 rfl) X hX.2.2.2.1 hX.hA hX.2.2.2.2 [] (33, 112, 115, 118) [] rfl (fun _ h => nomatch h) (by decide) (by decide) q714 q925 (fun hKSc => ?_)
            have hKl2 := hKS.kp hKSc hKl2
            have hKl4 := hKS.kp hKSc hKl4
            have hKS := hKS.tr hKSc
            have hWS := hKS.2.2.2.2 rfl
            have hW := hWS.1
            obtain ⟨hE88, h⟩ := ckK_some h
            obtain ⟨e3, h, e3q⟩ := outR_some h
            replace h := h.trans (congrArg some (he40 _ e3q))
            refine V_astore X dX1_book_115 (by decide) (L' := [(4, .ref (xb x + g.2.1)), (6, vI y60.1), (5, vI c51.1), (0, .ref (xb x + 0)), (2, .ref (xb x + l2)), (3, vI l3)]) rfl ?_
            refine V_aload_n X dX1_book_117 3 rfl ?_
            refine V_aload X dX1_book_118 0 rfl ?_
            obtain ⟨c120_1, hc120_1, h⟩ := bind_some_eq h
            refine V_callV (ci := 0) (N := 18) (T := TX1) (As := [.ref (xb x + g.2.1)]) (rest := []) (s1 := [vI c120_1.1]) (o := 0) X (con_x_faulty (kE 3 g.1 g.2.1) hW g.2.1 hE88 s88_ c120_1 hc120_1) gwX1_faulty_142 hdV_X1_faulty ⟨Nat.le_of_ble_eq_true rfl, Nat.le_of_ble_eq_true rfl⟩ rfl (by decide) (hW.at 0 rfl) rfl rfl (Nat.le_of_ble_eq_true rfl) (limcc hKS.2.1) dX1_book_120 rfl rfl ?_
            have hr := Option.some.inj h
            subst hr
            exact V_endA_i hX rfl hKS dX1_book_123
          rw [if_neg he88_3] at h
          cases h
        replace h := thT_r h
        refine V_callV1 (ci := 11) (N := 4) (T := TX12) (As := [vI 0, vI 1]) (rest := []) (s1 := [vI y88.1]) (o := l4) X (con_xReader_number g.1 hW N l4 hKl4 g.2.1 hWS y60.2 0 1 (.inr y88) hc88) gwX1_number_182 hdV_X12_number ⟨Nat.le_of_ble_eq_true rfl, Nat.le_of_ble_eq_true rfl⟩ rfl (by decide) hKl4 rfl rfl (Nat.le_of_ble_eq_true rfl) (limcc hKS.2.1) dX1_book_88 rfl rfl ?_
        refine V_istore X dX1_book_91 (by decide) (L' := [(7, vI y88.1), (6, vI y60.1), (5, vI c51.1), (0, .ref (xb x + 0)), (2, .ref (xb x + l2)), (3, vI l3), (4, .ref (xb x + l4))]) rfl ?_
        refine V_aload X dX1_book_93 6 rfl ?_
        refine V_bipush X dX1_book_95 (by decide) ?_
        obtain ⟨c97, hc97, h⟩ := bind_some_eq h
        rcases c97 with ⟨e97_, s97_⟩ | y97
        · replace h := thT_l h
          obtain ⟨hm, h⟩ := lim_some h
          by_cases he97_3 : e97_ = 3
          · rw [if_pos he97_3] at h
            rw [he97_3] at hc97
            refine RunA.catch (name := "RainWheel$Wrong") (runV_A (ci := 11) (N := 4) (T := TX12) (As := [vI 59]) (rest := []) (o := l4) X hKS.2.1 (ConThr.toA (β := Unit) (v := fun _ => (fun _ => none, g.1, g.2.1, y88.2)) (con_xReader_sign g.1 hW N l4 hKl4 g.2.1 hWS y88.2 59 (.inl (3, s97_)) hc97) hm (hKS.here.kEw _ hm)) gwX1_sign_187 hdV_X12_sign ⟨Nat.le_of_ble_eq_true rfl, Nat.le_of_ble_eq_true rfl⟩ rfl (by decide) hKl4 rfl rfl (Nat.le_of_ble_eq_true rfl) dX1_book_97 rfl) X hX.2.2.2.1 hX.hA hX.2.2.2.2 [] (33, 112, 115, 118) [] rfl (fun _ h => nomatch h) (by decide) (by decide) q714 q925 (fun hKSc => ?_)
            have hKl2 := hKS.kp hKSc hKl2
            have hKl4 := hKS.kp hKSc hKl4
            have hKS := hKS.tr hKSc
            have hWS := hKS.2.2.2.2 rfl
            have hW := hWS.1
            obtain ⟨hE97, h⟩ := ckK_some h
            obtain ⟨e4, h, e4q⟩ := outR_some h
            replace h := h.trans (congrArg some (he40 _ e4q))
            refine V_astore X dX1_book_115 (by decide) (L' := [(4, .ref (xb x + g.2.1)), (7, vI y88.1), (6, vI y60.1), (5, vI c51.1), (0, .ref (xb x + 0)), (2, .ref (xb x + l2)), (3, vI l3)]) rfl ?_
            refine V_aload_n X dX1_book_117 4 rfl ?_
            refine V_aload X dX1_book_118 0 rfl ?_
            obtain ⟨c120_2, hc120_2, h⟩ := bind_some_eq h
            refine V_callV (ci := 0) (N := 18) (T := TX1) (As := [.ref (xb x + g.2.1)]) (rest := []) (s1 := [vI c120_2.1]) (o := 0) X (con_x_faulty (kE 3 g.1 g.2.1) hW g.2.1 hE97 s97_ c120_2 hc120_2) gwX1_faulty_142 hdV_X1_faulty ⟨Nat.le_of_ble_eq_true rfl, Nat.le_of_ble_eq_true rfl⟩ rfl (by decide) (hW.at 0 rfl) rfl rfl (Nat.le_of_ble_eq_true rfl) (limcc hKS.2.1) dX1_book_120 rfl rfl ?_
            have hr := Option.some.inj h
            subst hr
            exact V_endA_i hX rfl hKS dX1_book_123
          rw [if_neg he97_3] at h
          cases h
        replace h := thT_r h
        refine V_callV1 (ci := 11) (N := 4) (T := TX12) (As := [vI 59]) (rest := []) (s1 := []) (o := l4) X (con_xReader_sign g.1 hW N l4 hKl4 g.2.1 hWS y88.2 59 (.inr y97) hc97) gwX1_sign_187 hdV_X12_sign ⟨Nat.le_of_ble_eq_true rfl, Nat.le_of_ble_eq_true rfl⟩ rfl (by decide) hKl4 rfl rfl (Nat.le_of_ble_eq_true rfl) (limcc hKS.2.1) dX1_book_97 rfl rfl ?_
        refine V_aload_n X dX1_book_100 4 rfl ?_
        refine V_iload X dX1_book_101 1 rfl ?_
        refine V_iload X dX1_book_103 0 rfl ?_
        refine V_iast X (o := l2) (n := 3) hKl2 (by decide) dX1_book_105 h (fun g105 h => ?_)
        refine V_iinc X dX1_book_106 5 rfl (by decide) (L' := [(3, vI (l3 + 1)), (7, vI y88.1), (6, vI y60.1), (5, vI c51.1), (0, .ref (xb x + 0)), (2, .ref (xb x + l2)), (4, .ref (xb x + l4))]) rfl ?_
        refine V_goto (tgt := 40) X dX1_book_109 (by decide) ?_
        exact V_sub [4, 5, 0, 6] rfl (hc40 _ (Option.some.inj h).symm hKS)
      · obtain ⟨e5, h, e5q⟩ := outR_some h
        replace h := h.trans (congrArg some (he40 _ e5q))
        obtain ⟨hm, h⟩ := lim_some h
        have hz73 := hKS.1
        refine V_newA (ci := 12) (N := 8) (C := RX13) (T := TX13) X hX.2.2.2.1 hX.hA hm rfl in_X13 tyX13 tyX13_ok (by decide) (by decide) q714 q924 q116 df_12 dX1_book_73 ?_
        have hKl2 := ku_kp (kd := 13) hKS hKl2
        have hKl4 := ku_kp (kd := 13) hKS hKl4
        have hKS := hKS.upw (kd := 13) hm rfl
        have hWS := hKS.2.2.2.2 rfl
        have hW := hWS.1
        have hN73 := (ku_self : ku g.1 g.2.1 13 g.2.1 = 13)
        refine V_dup X dX1_book_76 rfl ?_
        refine V_iconst X dX1_book_77 ?_
        refine V_iload X dX1_book_78 1 rfl ?_
        refine V_callI (As := [vI 2, vI c51.1]) (rest := [.ref (xb x + g.2.1)]) (s1 := [.ref (xb x + g.2.1)]) (o := g.2.1) X ((con_Wrong (ku g.1 g.2.1 13) g.2.1 hN73 (newI 12 g.2.1 y60.2) 2 c51.1).at1 (g.2.1 + 1)) q1122 q933 q116 q934 hdI_Wrong ⟨Nat.le_of_ble_eq_true rfl, Nat.le_of_ble_eq_true rfl⟩ rfl rfl (Nat.le_of_ble_eq_true rfl) (limcc hKS.2.1) dX1_book_80 rfl rfl ?_
        refine V_throwC X hX.2.2.2.2 [] (33, 112, 115, 118) [] rfl (fun _ h => nomatch h) (by decide) (by decide) q714 q925 hN73 dX1_book_83 ?_
        refine V_astore X dX1_book_115 (by decide) (L' := [(4, .ref (xb x + g.2.1)), (6, vI y60.1), (5, vI c51.1), (0, .ref (xb x + 0)), (2, .ref (xb x + l2)), (3, vI l3)]) rfl ?_
        refine V_aload_n X dX1_book_117 3 rfl ?_
        refine V_aload X dX1_book_118 0 rfl ?_
        obtain ⟨c120_3, hc120_3, h⟩ := bind_some_eq h
        refine V_callV (ci := 0) (N := 18) (T := TX1) (As := [.ref (xb x + g.2.1)]) (rest := []) (s1 := [vI c120_3.1]) (o := 0) X (con_x_faulty (ku g.1 g.2.1 13) hW g.2.1 hN73 (wrI g.2.1 2 c51.1 (newI 12 g.2.1 y60.2)) c120_3 hc120_3) gwX1_faulty_142 hdV_X1_faulty ⟨Nat.le_of_ble_eq_true rfl, Nat.le_of_ble_eq_true rfl⟩ rfl (by decide) (hW.at 0 rfl) rfl rfl (Nat.le_of_ble_eq_true rfl) (limcc hKS.2.1) dX1_book_120 rfl rfl ?_
        have hr := Option.some.inj h
        subst hr
        exact V_endA_i hX rfl hKS dX1_book_123
  unfold x_book at h
  show V x 8 K (sz - sz) (600 * (sz - sz)) sz g 0 [(0, .ref (xb x + 0)), (1, vI l1)] []
  refine V_aload_n X dX1_book_0 0 rfl ?_
  refine V_iload_n X dX1_book_1 1 rfl ?_
  refine V_iconst X dX1_book_2 ?_
  refine V_aload_n X dX1_book_3 0 rfl ?_
  refine V_get (ci := 0) (N := 18) (C := RX1) (T := TX1) (o := 0) (j := 13) X rfl in_X1 (by decide) (hW.at 0 rfl) (by decide) q490 (fv_0 rfl) dX1_book_4 ?_
  refine V_bipush X dX1_book_7 (by decide) ?_
  refine V_min X q997 ⟨Nat.le_of_ble_eq_true rfl, Nat.le_of_ble_eq_true rfl⟩ (Nat.le_of_ble_eq_true rfl) (limcc hKS.2.1) dX1_book_9 ?_
  obtain ⟨c12, hc12, h⟩ := bind_some_eq h
  rcases c12 with ⟨e12_, s12_⟩ | y12
  · replace h := thT_l h
    obtain ⟨hm, h⟩ := lim_some h
    have hr := Option.some.inj h
    subst hr
    exact RunA.out (runV_A (ci := 0) (N := 18) (T := TX1) (As := [vI l1, vI 0, vI (imin (gI g 13 0) 40)]) (rest := []) (o := 0) X hKS.2.1 (ConThr.toA (β := Unit) (v := fun _ => (fun _ => none, K, sz, g)) (con_x_within K hW sz g l1 0 (imin (gI g 13 0) 40) (.inl (e12_, s12_)) hc12) hm (hKS.here.kEw _ hm)) gwX1_within_125 hdV_X1_within ⟨Nat.le_of_ble_eq_true rfl, Nat.le_of_ble_eq_true rfl⟩ rfl (by decide) (hW.at 0 rfl) rfl rfl (Nat.le_of_ble_eq_true rfl) dX1_book_12 rfl) hX (by decide) hKS
  replace h := thT_r h
  refine V_callV1 (ci := 0) (N := 18) (T := TX1) (As := [vI l1, vI 0, vI (imin (gI g 13 0) 40)]) (rest := []) (s1 := []) (o := 0) X (con_x_within K hW sz g l1 0 (imin (gI g 13 0) 40) (.inr y12) hc12) gwX1_within_125 hdV_X1_within ⟨Nat.le_of_ble_eq_true rfl, Nat.le_of_ble_eq_true rfl⟩ rfl (by decide) (hW.at 0 rfl) rfl rfl (Nat.le_of_ble_eq_true rfl) (limcc hKS.2.1) dX1_book_12 rfl rfl ?_
  refine V_iconst X dX1_book_15 ?_
  obtain ⟨hm, h⟩ := lim_some h
  refine V_newarrA (at' := .int) (t := 0) (N := 3) X hX.2.2.2.1 hX.hA hm (by decide) rfl q168 (by decide) dX1_book_16 ?_
  have hKS := hKS.upw (kd := 10003) hm rfl
  have hWS := hKS.2.2.2.2 rfl
  have hW := hWS.1
  have hN16 := (ku_self : ku K sz 10003 sz = 10003)
  refine V_dup X dX1_book_18 rfl ?_
  refine V_iconst X dX1_book_19 ?_
  refine V_iconst X dX1_book_20 ?_
  refine V_iast X (o := sz) (n := 3) hN16 (by decide) dX1_book_21 h (fun g21 h => ?_)
  refine V_dup X dX1_book_22 rfl ?_
  refine V_iconst X dX1_book_23 ?_
  refine V_iconst X dX1_book_24 ?_
  refine V_iast X (o := sz) (n := 3) hN16 (by decide) dX1_book_25 h (fun g25 h => ?_)
  refine V_dup X dX1_book_26 rfl ?_
  refine V_iconst X dX1_book_27 ?_
  refine V_iconst X dX1_book_28 ?_
  refine V_iast X (o := sz) (n := 3) hN16 (by decide) dX1_book_29 h (fun g29 h => ?_)
  refine V_astore_n X dX1_book_30 (by decide) (L' := [(2, .ref (xb x + sz)), (0, .ref (xb x + 0)), (1, vI l1)]) rfl ?_
  refine V_iconst X dX1_book_31 ?_
  refine V_istore_n X dX1_book_32 (by decide) (L' := [(3, vI 0), (2, .ref (xb x + sz)), (0, .ref (xb x + 0)), (1, vI l1)]) rfl ?_
  refine V_aload_n X dX1_book_33 2 rfl ?_
  refine V_iload_n X dX1_book_34 3 rfl ?_
  obtain ⟨c35, hc35, h⟩ := bind_some_eq h
  refine RunA.back (s1 := [.ref (xb x + c35.1)]) (runV_A (ci := 0) (N := 18) (T := TX1) (As := [vI l1]) (rest := []) (o := 0) X hKS.2.1 (con_x_reader (ku K sz 10003) (sz + 1) hKS.here g29 l1 c35 hc35) gwX1_reader_131 hdV_X1_reader ⟨Nat.le_of_ble_eq_true rfl, Nat.le_of_ble_eq_true rfl⟩ rfl (by decide) (hW.at 0 rfl) rfl rfl (Nat.le_of_ble_eq_true rfl) dX1_book_35 rfl) X hX.2.2.2.1 hX.hA rfl (fun hKSc => ?_)
  have hN16 := hKS.kp hKSc hN16
  have hKS := hKS.tr hKSc
  have hWS := hKS.2.2.2.2 rfl
  have hW := hWS.1
  obtain ⟨hR35, h⟩ := ckK_some h
  refine V_astore X dX1_book_38 (by decide) (L' := [(4, .ref (xb x + c35.1)), (3, vI 0), (2, .ref (xb x + sz)), (0, .ref (xb x + 0)), (1, vI l1)]) rfl ?_
  exact V_sub [3, 2, 1, 0] rfl (LL40 sz c35.1 N (c35.2, 0) _ h rfl hKS)
set_option maxHeartbeats 4000000 in
theorem con_x_would (K : Nat → Nat) (sz : Nat) (hKS : KS true K sz K sz) (g : GS) (l1 : Int) (l2 : Int) (l3 : Int) (l4 : Int) (l5 : Int) (l6 : Int) (r : ((Nat × S3) ⊕ (Int × S3))) (h : x_would K sz g l1 l2 l3 l4 l5 l6 = some r) : ConA true sz yX1_would cX1_would 8 (some .int) 207 4941 K (fun b => [.ref (b + 0), vI l1, vI l2, vI l3, vI l4, vI l5, vI l6]) g (fun r => ((fun _ => some (vI r.1)), r.2)) r := by
  refine ConA.of RX1 (by decide) rfl (fun b => Nat.le_of_ble_eq_true rfl) (fun x hX hnm => ?_)
  have X := hX.1
  have h0K := hKS.2.2.1
  have hWS := hKS.2.2.2.2 rfl
  have hW := hWS.1
  unfold x_would at h
  show V x 8 K (sz - sz) (600 * (sz - sz)) sz g 0 [(0, .ref (xb x + 0)), (1, vI l1), (2, vI l2), (3, vI l3), (4, vI l4), (5, vI l5), (6, vI l6)] []
  refine V_aload_n X dX1_would_0 0 rfl ?_
  refine V_iload_n X dX1_would_1 1 rfl ?_
  refine V_iconst X dX1_would_2 ?_
  refine V_bipush X dX1_would_3 (by decide) ?_
  obtain ⟨c5, hc5, h⟩ := bind_some_eq h
  rcases c5 with ⟨e5_, s5_⟩ | y5
  · replace h := thT_l h
    obtain ⟨hm, h⟩ := lim_some h
    have hr := Option.some.inj h
    subst hr
    exact RunA.out (runV_A (ci := 0) (N := 18) (T := TX1) (As := [vI l1, vI 1, vI 30]) (rest := []) (o := 0) X hKS.2.1 (ConThr.toA (β := Unit) (v := fun _ => (fun _ => none, K, sz, g)) (con_x_within K hW sz g l1 1 30 (.inl (e5_, s5_)) hc5) hm (hKS.here.kEw _ hm)) gwX1_within_125 hdV_X1_within ⟨Nat.le_of_ble_eq_true rfl, Nat.le_of_ble_eq_true rfl⟩ rfl (by decide) (hW.at 0 rfl) rfl rfl (Nat.le_of_ble_eq_true rfl) dX1_would_5 rfl) hX (fun _ h => nomatch h) hKS
  replace h := thT_r h
  refine V_callV1 (ci := 0) (N := 18) (T := TX1) (As := [vI l1, vI 1, vI 30]) (rest := []) (s1 := []) (o := 0) X (con_x_within K hW sz g l1 1 30 (.inr y5) hc5) gwX1_within_125 hdV_X1_within ⟨Nat.le_of_ble_eq_true rfl, Nat.le_of_ble_eq_true rfl⟩ rfl (by decide) (hW.at 0 rfl) rfl rfl (Nat.le_of_ble_eq_true rfl) (limcc hKS.2.1) dX1_would_5 rfl rfl ?_
  refine V_aload_n X dX1_would_8 0 rfl ?_
  refine V_iload_n X dX1_would_9 2 rfl ?_
  refine V_iconst X dX1_would_10 ?_
  refine V_iconst X dX1_would_11 ?_
  obtain ⟨c12, hc12, h⟩ := bind_some_eq h
  rcases c12 with ⟨e12_, s12_⟩ | y12
  · replace h := thT_l h
    obtain ⟨hm, h⟩ := lim_some h
    have hr := Option.some.inj h
    subst hr
    exact RunA.out (runV_A (ci := 0) (N := 18) (T := TX1) (As := [vI l2, vI 1, vI 2]) (rest := []) (o := 0) X hKS.2.1 (ConThr.toA (β := Unit) (v := fun _ => (fun _ => none, K, sz, y5)) (con_x_within K hW sz y5 l2 1 2 (.inl (e12_, s12_)) hc12) hm (hKS.here.kEw _ hm)) gwX1_within_125 hdV_X1_within ⟨Nat.le_of_ble_eq_true rfl, Nat.le_of_ble_eq_true rfl⟩ rfl (by decide) (hW.at 0 rfl) rfl rfl (Nat.le_of_ble_eq_true rfl) dX1_would_12 rfl) hX (fun _ h => nomatch h) hKS
  replace h := thT_r h
  refine V_callV1 (ci := 0) (N := 18) (T := TX1) (As := [vI l2, vI 1, vI 2]) (rest := []) (s1 := []) (o := 0) X (con_x_within K hW sz y5 l2 1 2 (.inr y12) hc12) gwX1_within_125 hdV_X1_within ⟨Nat.le_of_ble_eq_true rfl, Nat.le_of_ble_eq_true rfl⟩ rfl (by decide) (hW.at 0 rfl) rfl rfl (Nat.le_of_ble_eq_true rfl) (limcc hKS.2.1) dX1_would_12 rfl rfl ?_
  refine V_aload_n X dX1_would_15 0 rfl ?_
  refine V_iload_n X dX1_would_16 3 rfl ?_
  refine V_iconst X dX1_would_17 ?_
  refine V_bipush X dX1_would_18 (by decide) ?_
  obtain ⟨c20, hc20, h⟩ := bind_some_eq h
  rcases c20 with ⟨e20_, s20_⟩ | y20
  · replace h := thT_l h
    obtain ⟨hm, h⟩ := lim_some h
    have hr := Option.some.inj h
    subst hr
    exact RunA.out (runV_A (ci := 0) (N := 18) (T := TX1) (As := [vI l3, vI 0, vI 18]) (rest := []) (o := 0) X hKS.2.1 (ConThr.toA (β := Unit) (v := fun _ => (fun _ => none, K, sz, y12)) (con_x_within K hW sz y12 l3 0 18 (.inl (e20_, s20_)) hc20) hm (hKS.here.kEw _ hm)) gwX1_within_125 hdV_X1_within ⟨Nat.le_of_ble_eq_true rfl, Nat.le_of_ble_eq_true rfl⟩ rfl (by decide) (hW.at 0 rfl) rfl rfl (Nat.le_of_ble_eq_true rfl) dX1_would_20 rfl) hX (fun _ h => nomatch h) hKS
  replace h := thT_r h
  refine V_callV1 (ci := 0) (N := 18) (T := TX1) (As := [vI l3, vI 0, vI 18]) (rest := []) (s1 := []) (o := 0) X (con_x_within K hW sz y12 l3 0 18 (.inr y20) hc20) gwX1_within_125 hdV_X1_within ⟨Nat.le_of_ble_eq_true rfl, Nat.le_of_ble_eq_true rfl⟩ rfl (by decide) (hW.at 0 rfl) rfl rfl (Nat.le_of_ble_eq_true rfl) (limcc hKS.2.1) dX1_would_20 rfl rfl ?_
  refine V_aload_n X dX1_would_23 0 rfl ?_
  refine V_iload X dX1_would_24 4 rfl ?_
  refine V_iconst X dX1_would_26 ?_
  refine V_iconst X dX1_would_27 ?_
  obtain ⟨c28, hc28, h⟩ := bind_some_eq h
  rcases c28 with ⟨e28_, s28_⟩ | y28
  · replace h := thT_l h
    obtain ⟨hm, h⟩ := lim_some h
    have hr := Option.some.inj h
    subst hr
    exact RunA.out (runV_A (ci := 0) (N := 18) (T := TX1) (As := [vI l4, vI 0, vI 1]) (rest := []) (o := 0) X hKS.2.1 (ConThr.toA (β := Unit) (v := fun _ => (fun _ => none, K, sz, y20)) (con_x_within K hW sz y20 l4 0 1 (.inl (e28_, s28_)) hc28) hm (hKS.here.kEw _ hm)) gwX1_within_125 hdV_X1_within ⟨Nat.le_of_ble_eq_true rfl, Nat.le_of_ble_eq_true rfl⟩ rfl (by decide) (hW.at 0 rfl) rfl rfl (Nat.le_of_ble_eq_true rfl) dX1_would_28 rfl) hX (fun _ h => nomatch h) hKS
  replace h := thT_r h
  refine V_callV1 (ci := 0) (N := 18) (T := TX1) (As := [vI l4, vI 0, vI 1]) (rest := []) (s1 := []) (o := 0) X (con_x_within K hW sz y20 l4 0 1 (.inr y28) hc28) gwX1_within_125 hdV_X1_within ⟨Nat.le_of_ble_eq_true rfl, Nat.le_of_ble_eq_true rfl⟩ rfl (by decide) (hW.at 0 rfl) rfl rfl (Nat.le_of_ble_eq_true rfl) (limcc hKS.2.1) dX1_would_28 rfl rfl ?_
  refine V_aload_n X dX1_would_31 0 rfl ?_
  refine V_iload X dX1_would_32 5 rfl ?_
  refine V_iconst X dX1_would_34 ?_
  refine V_sipush X dX1_would_35 (by decide) ?_
  obtain ⟨c38, hc38, h⟩ := bind_some_eq h
  rcases c38 with ⟨e38_, s38_⟩ | y38
  · replace h := thT_l h
    obtain ⟨hm, h⟩ := lim_some h
    have hr := Option.some.inj h
    subst hr
    exact RunA.out (runV_A (ci := 0) (N := 18) (T := TX1) (As := [vI l5, vI 0, vI 240]) (rest := []) (o := 0) X hKS.2.1 (ConThr.toA (β := Unit) (v := fun _ => (fun _ => none, K, sz, y28)) (con_x_within K hW sz y28 l5 0 240 (.inl (e38_, s38_)) hc38) hm (hKS.here.kEw _ hm)) gwX1_within_125 hdV_X1_within ⟨Nat.le_of_ble_eq_true rfl, Nat.le_of_ble_eq_true rfl⟩ rfl (by decide) (hW.at 0 rfl) rfl rfl (Nat.le_of_ble_eq_true rfl) dX1_would_38 rfl) hX (fun _ h => nomatch h) hKS
  replace h := thT_r h
  refine V_callV1 (ci := 0) (N := 18) (T := TX1) (As := [vI l5, vI 0, vI 240]) (rest := []) (s1 := []) (o := 0) X (con_x_within K hW sz y28 l5 0 240 (.inr y38) hc38) gwX1_within_125 hdV_X1_within ⟨Nat.le_of_ble_eq_true rfl, Nat.le_of_ble_eq_true rfl⟩ rfl (by decide) (hW.at 0 rfl) rfl rfl (Nat.le_of_ble_eq_true rfl) (limcc hKS.2.1) dX1_would_38 rfl rfl ?_
  refine V_aload_n X dX1_would_41 0 rfl ?_
  refine V_iload X dX1_would_42 6 rfl ?_
  refine V_iconst X dX1_would_44 ?_
  refine V_iconst X dX1_would_45 ?_
  obtain ⟨c46, hc46, h⟩ := bind_some_eq h
  rcases c46 with ⟨e46_, s46_⟩ | y46
  · replace h := thT_l h
    obtain ⟨hm, h⟩ := lim_some h
    have hr := Option.some.inj h
    subst hr
    exact RunA.out (runV_A (ci := 0) (N := 18) (T := TX1) (As := [vI l6, vI 0, vI 1]) (rest := []) (o := 0) X hKS.2.1 (ConThr.toA (β := Unit) (v := fun _ => (fun _ => none, K, sz, y38)) (con_x_within K hW sz y38 l6 0 1 (.inl (e46_, s46_)) hc46) hm (hKS.here.kEw _ hm)) gwX1_within_125 hdV_X1_within ⟨Nat.le_of_ble_eq_true rfl, Nat.le_of_ble_eq_true rfl⟩ rfl (by decide) (hW.at 0 rfl) rfl rfl (Nat.le_of_ble_eq_true rfl) dX1_would_46 rfl) hX (fun _ h => nomatch h) hKS
  replace h := thT_r h
  refine V_callV1 (ci := 0) (N := 18) (T := TX1) (As := [vI l6, vI 0, vI 1]) (rest := []) (s1 := []) (o := 0) X (con_x_within K hW sz y38 l6 0 1 (.inr y46) hc46) gwX1_within_125 hdV_X1_within ⟨Nat.le_of_ble_eq_true rfl, Nat.le_of_ble_eq_true rfl⟩ rfl (by decide) (hW.at 0 rfl) rfl rfl (Nat.le_of_ble_eq_true rfl) (limcc hKS.2.1) dX1_would_46 rfl rfl ?_
  obtain ⟨hm, h⟩ := lim_some h
  have hz49 := hKS.1
  refine V_newA (ci := 4) (N := 6) (C := RX5) (T := TX5) X hX.2.2.2.1 hX.hA hm rfl in_X5 tyX5 tyX5_ok (by decide) (by decide) q1196 q180 q100 df_4 dX1_would_49 ?_
  have hKS := hKS.upw (kd := 5) hm rfl
  have hWS := hKS.2.2.2.2 rfl
  have hW := hWS.1
  have hN49 := (ku_self : ku K sz 5 sz = 5)
  refine V_dup X dX1_would_52 rfl ?_
  obtain ⟨c53, hc53, h⟩ := bind_some_eq h
  refine V_callINA (As := []) (rest := [.ref (xb x + sz)]) (s1 := [.ref (xb x + sz)]) (o := sz) X hX.2.2.2.1 hX.hA hKS.2.1 (con_xSight_init true sz (ku K sz 5) (sz + 1) hKS.here hN49 (newI 4 sz y46) c53 hc53) q1197 q182 q100 q183 hdI_X5 ⟨Nat.le_of_ble_eq_true rfl, Nat.le_of_ble_eq_true rfl⟩ rfl rfl (Nat.le_of_ble_eq_true rfl) dX1_would_53 rfl rfl (fun hKSc => ?_)
  have hN49 := hKS.kp hKSc hN49
  have hKS := hKS.tr hKSc
  have hWS := hKS.2.2.2.2 rfl
  have hW := hWS.1
  refine V_astore X dX1_would_56 (by decide) (L' := [(7, .ref (xb x + sz)), (0, .ref (xb x + 0)), (1, vI l1), (2, vI l2), (3, vI l3), (4, vI l4), (5, vI l5), (6, vI l6)]) rfl ?_
  refine V_aload X dX1_would_58 0 rfl ?_
  refine V_iload_n X dX1_would_60 2 rfl ?_
  refine V_putN (ty := .int) (ci := 4) (N := 6) (C := RX5) (T := TX5) (o := sz) (j := 0) (a := l1) X rfl in_X5 tyX5 tyX5_ok nmX5 (by decide) hN49 (by decide) rfl pfd_I rfl rfl q188 (by rw [fv_0 rfl, gI_sI, if_pos ⟨rfl, rfl⟩]) dX1_would_61 ?_
  refine V_aload X dX1_would_64 0 rfl ?_
  refine V_iload_n X dX1_would_66 3 rfl ?_
  refine V_putN (ty := .int) (ci := 4) (N := 6) (C := RX5) (T := TX5) (o := sz) (j := 1) (a := l2) X rfl in_X5 tyX5 tyX5_ok nmX5 (by decide) hN49 (by decide) rfl pfd_I rfl rfl q191 (by rw [fv_0 rfl, gI_sI, if_pos ⟨rfl, rfl⟩]) dX1_would_67 ?_
  refine V_aload X dX1_would_70 0 rfl ?_
  refine V_iload_n X dX1_would_72 4 rfl ?_
  refine V_putN (ty := .int) (ci := 4) (N := 6) (C := RX5) (T := TX5) (o := sz) (j := 2) (a := l3) X rfl in_X5 tyX5 tyX5_ok nmX5 (by decide) hN49 (by decide) rfl pfd_I rfl rfl q194 (by rw [fv_0 rfl, gI_sI, if_pos ⟨rfl, rfl⟩]) dX1_would_73 ?_
  refine V_aload X dX1_would_76 0 rfl ?_
  refine V_iload X dX1_would_78 5 rfl ?_
  refine V_putN (ty := .int) (ci := 4) (N := 6) (C := RX5) (T := TX5) (o := sz) (j := 3) (a := l4) X rfl in_X5 tyX5 tyX5_ok nmX5 (by decide) hN49 (by decide) rfl pfd_I rfl rfl q197 (by rw [fv_0 rfl, gI_sI, if_pos ⟨rfl, rfl⟩]) dX1_would_80 ?_
  refine V_aload X dX1_would_83 0 rfl ?_
  refine V_iload X dX1_would_85 6 rfl ?_
  refine V_putN (ty := .int) (ci := 4) (N := 6) (C := RX5) (T := TX5) (o := sz) (j := 4) (a := l5) X rfl in_X5 tyX5 tyX5_ok nmX5 (by decide) hN49 (by decide) rfl pfd_I rfl rfl q200 (by rw [fv_0 rfl, gI_sI, if_pos ⟨rfl, rfl⟩]) dX1_would_87 ?_
  refine V_aload X dX1_would_90 0 rfl ?_
  refine V_iload X dX1_would_92 7 rfl ?_
  refine V_putN (ty := .int) (ci := 4) (N := 6) (C := RX5) (T := TX5) (o := sz) (j := 5) (a := l6) X rfl in_X5 tyX5 tyX5_ok nmX5 (by decide) hN49 (by decide) rfl pfd_I rfl rfl q203 (by rw [fv_0 rfl, gI_sI, if_pos ⟨rfl, rfl⟩]) dX1_would_94 ?_
  refine V_aload_n X dX1_would_97 1 rfl ?_
  refine V_get (ci := 0) (N := 18) (C := RX1) (T := TX1) (o := 0) (j := 1) X rfl in_X1 (by decide) (hW.at 0 rfl) (by decide) q478 (fv_1 (i := 2) rfl rfl) dX1_would_98 ?_
  refine V_aload X dX1_would_101 0 rfl ?_
  obtain ⟨c103, hc103, h⟩ := bind_some_eq h
  refine V_callV (ci := 1) (N := 1) (T := TX2) (As := [.ref (xb x + sz)]) (rest := []) (s1 := [vI c103]) (o := 2) X (con_xLaw_lasts c53.1 hW sz hN49 (sI (sI (sI (sI (sI (sI c53.2.2 400 sz l1) 401 sz l2) 402 sz l3) 403 sz l4) 404 sz l5) 405 sz l6) c103 hc103) gwX1_lasts_261 hdV_X2_lasts ⟨Nat.le_of_ble_eq_true rfl, Nat.le_of_ble_eq_true rfl⟩ rfl (by decide) (hW.at 2 rfl) rfl rfl (Nat.le_of_ble_eq_true rfl) (limcc hKS.2.1) dX1_would_103 rfl rfl ?_
  have hr := Option.some.inj h
  subst hr
  exact V_endA_i hX rfl hKS dX1_would_106
