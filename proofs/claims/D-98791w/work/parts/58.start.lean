set_option maxRecDepth 100000
theorem q126 : (Jvm.Cond.classLink "RainWheelLaw" (8 : Nat) "RainWheel") ∈ lw_all := lw_g (lw_at lw_m1 31 rfl) rfl
theorem q128 : (Jvm.Cond.methodLink "RainWheelLaw" (134 : Nat) ({ cls := "RainWheel", name := "<init>", desc := "()V" } : Jvm.MethodName)) ∈ lw_all := lw_g (lw_at lw_m1 33 rfl) rfl
theorem q1530 : (Jvm.Cond.classLink "RainWheelLaw" (135 : Nat) "RainWheelModel") ∈ lw_all := lw_g (lw_at lw_m6 235 rfl) rfl
theorem q1532 : (Jvm.Cond.methodLink "RainWheelLaw" (137 : Nat) ({ cls := "RainWheelModel", name := "<init>", desc := "()V" } : Jvm.MethodName)) ∈ lw_all := lw_g (lw_at lw_m6 237 rfl) rfl
theorem q2249 : (Jvm.Cond.arrayClass Jvm.ClassFile.FieldType.long) ∈ lw_all := lw_g (lw_at lw_m9 234 rfl) rfl
/-! what the tables say of the classes and of the arrays, named -/
set_option maxRecDepth 100000
theorem start_C {args : Array Value} {s : State} (hts : ∀ w ∈ lw_all, w.before args s = true) : ∀ k : Nat, ∃ p : ClassId × (Nat → Nat), ∀ q : vw_C, clT[k]? = some q → u_Kn s q.1 q.2.1 q.2.2 p.1 p.2 := by
  intro k
  match k with
  | 0 => obtain ⟨c, i, h⟩ := u_known (C := RX1) (T := TX1) (N := 18) (n := 18) hts in_X1 (hts _ q127); exact ⟨(c, i), fun q hq => by cases hq; exact h⟩
  | 1 => obtain ⟨c, i, h⟩ := u_known (C := RX2) (T := TX2) (N := 1) (n := 1) hts in_X2 (hts _ q135); exact ⟨(c, i), fun q hq => by cases hq; exact h⟩
  | 2 => obtain ⟨c, i, h⟩ := u_known (C := RX3) (T := TX3) (N := 3) (n := 3) hts in_X3 (hts _ q147); exact ⟨(c, i), fun q hq => by cases hq; exact h⟩
  | 3 => obtain ⟨c, i, h⟩ := u_known (C := RX4) (T := TX4) (N := 15) (n := 15) hts in_X4 (hts _ q174); exact ⟨(c, i), fun q hq => by cases hq; exact h⟩
  | 4 => obtain ⟨c, i, h⟩ := u_known (C := RX5) (T := TX5) (N := 6) (n := 6) hts in_X5 (hts _ q180); exact ⟨(c, i), fun q hq => by cases hq; exact h⟩
  | 5 => obtain ⟨c, i, h⟩ := u_known (C := RX6) (T := TX6) (N := 7) (n := 7) hts in_X6 (hts _ q271); exact ⟨(c, i), fun q hq => by cases hq; exact h⟩
  | 6 => obtain ⟨c, i, h⟩ := u_known (C := RX7) (T := TX7) (N := 4) (n := 4) hts in_X7 (hts _ q306); exact ⟨(c, i), fun q hq => by cases hq; exact h⟩
  | 7 => obtain ⟨c, i, h⟩ := u_known (C := RX8) (T := TX8) (N := 4) (n := 4) hts in_X8 (hts _ q327); exact ⟨(c, i), fun q hq => by cases hq; exact h⟩
  | 8 => obtain ⟨c, i, h⟩ := u_known (C := RX9) (T := TX9) (N := 24) (n := 24) hts in_X9 (hts _ q348); exact ⟨(c, i), fun q hq => by cases hq; exact h⟩
  | 9 => obtain ⟨c, i, h⟩ := u_known (C := RX10) (T := TX10) (N := 73) (n := 73) hts in_X10 (hts _ q1531); exact ⟨(c, i), fun q hq => by cases hq; exact h⟩
  | 10 => obtain ⟨c, i, h⟩ := u_known (C := RX11) (T := TX11) (N := 4) (n := 4) hts in_X11 (hts _ q785); exact ⟨(c, i), fun q hq => by cases hq; exact h⟩
  | 11 => obtain ⟨c, i, h⟩ := u_known (C := RX12) (T := TX12) (N := 4) (n := 4) hts in_X12 (hts _ q791); exact ⟨(c, i), fun q hq => by cases hq; exact h⟩
  | 12 => obtain ⟨c, i, h⟩ := u_known (C := RX13) (T := TX13) (N := 8) (n := 8) hts in_X13 (hts _ q924); exact ⟨(c, i), fun q hq => by cases hq; exact h⟩
  | 13 => obtain ⟨c, i, h⟩ := u_known (C := RX14) (T := TX14) (N := 2) (n := 2) hts in_X14 (hts _ q999); exact ⟨(c, i), fun q hq => by cases hq; exact h⟩
  | 14 => obtain ⟨c, i, h⟩ := u_known (C := RX15) (T := TX15) (N := 3) (n := 3) hts in_X15 (hts _ q1048); exact ⟨(c, i), fun q hq => by cases hq; exact h⟩
  | 15 => obtain ⟨c, i, h⟩ := u_known (C := RX16) (T := TX16) (N := 1) (n := 1) hts in_X16 (hts _ q1066); exact ⟨(c, i), fun q hq => by cases hq; exact h⟩
  | 16 => obtain ⟨c, i, h⟩ := u_known (C := RX17) (T := TX17) (N := 1) (n := 1) hts in_X17 (hts _ q1077); exact ⟨(c, i), fun q hq => by cases hq; exact h⟩
  | 17 => obtain ⟨c, i, h⟩ := u_known (C := RX1) (T := TX1) (N := 18) (n := 18) hts in_X1 (hts _ q127); exact ⟨(c, i), fun q hq => by cases hq; exact h⟩
  | 18 => obtain ⟨c, i, h⟩ := u_known (C := RX2) (T := TX2) (N := 1) (n := 1) hts in_X2 (hts _ q135); exact ⟨(c, i), fun q hq => by cases hq; exact h⟩
  | 19 => obtain ⟨c, i, h⟩ := u_known (C := RX3) (T := TX3) (N := 3) (n := 3) hts in_X3 (hts _ q147); exact ⟨(c, i), fun q hq => by cases hq; exact h⟩
  | 20 => obtain ⟨c, i, h⟩ := u_known (C := RX4) (T := TX4) (N := 15) (n := 15) hts in_X4 (hts _ q174); exact ⟨(c, i), fun q hq => by cases hq; exact h⟩
  | 21 => obtain ⟨c, i, h⟩ := u_known (C := RX5) (T := TX5) (N := 6) (n := 6) hts in_X5 (hts _ q180); exact ⟨(c, i), fun q hq => by cases hq; exact h⟩
  | 22 => obtain ⟨c, i, h⟩ := u_known (C := RX6) (T := TX6) (N := 7) (n := 7) hts in_X6 (hts _ q271); exact ⟨(c, i), fun q hq => by cases hq; exact h⟩
  | 23 => obtain ⟨c, i, h⟩ := u_known (C := RX7) (T := TX7) (N := 4) (n := 4) hts in_X7 (hts _ q306); exact ⟨(c, i), fun q hq => by cases hq; exact h⟩
  | 24 => obtain ⟨c, i, h⟩ := u_known (C := RX8) (T := TX8) (N := 4) (n := 4) hts in_X8 (hts _ q327); exact ⟨(c, i), fun q hq => by cases hq; exact h⟩
  | 25 => obtain ⟨c, i, h⟩ := u_known (C := RX9) (T := TX9) (N := 24) (n := 24) hts in_X9 (hts _ q348); exact ⟨(c, i), fun q hq => by cases hq; exact h⟩
  | 26 => obtain ⟨c, i, h⟩ := u_known (C := RX10) (T := TX10) (N := 73) (n := 73) hts in_X10 (hts _ q1531); exact ⟨(c, i), fun q hq => by cases hq; exact h⟩
  | 27 => obtain ⟨c, i, h⟩ := u_known (C := RX11) (T := TX11) (N := 4) (n := 4) hts in_X11 (hts _ q785); exact ⟨(c, i), fun q hq => by cases hq; exact h⟩
  | 28 => obtain ⟨c, i, h⟩ := u_known (C := RX12) (T := TX12) (N := 4) (n := 4) hts in_X12 (hts _ q791); exact ⟨(c, i), fun q hq => by cases hq; exact h⟩
  | 29 => obtain ⟨c, i, h⟩ := u_known (C := RX13) (T := TX13) (N := 8) (n := 8) hts in_X13 (hts _ q924); exact ⟨(c, i), fun q hq => by cases hq; exact h⟩
  | 30 => obtain ⟨c, i, h⟩ := u_known (C := RX14) (T := TX14) (N := 2) (n := 2) hts in_X14 (hts _ q999); exact ⟨(c, i), fun q hq => by cases hq; exact h⟩
  | 31 => obtain ⟨c, i, h⟩ := u_known (C := RX15) (T := TX15) (N := 3) (n := 3) hts in_X15 (hts _ q1048); exact ⟨(c, i), fun q hq => by cases hq; exact h⟩
  | 32 => obtain ⟨c, i, h⟩ := u_known (C := RX16) (T := TX16) (N := 1) (n := 1) hts in_X16 (hts _ q1066); exact ⟨(c, i), fun q hq => by cases hq; exact h⟩
  | 33 => obtain ⟨c, i, h⟩ := u_known (C := RX17) (T := TX17) (N := 1) (n := 1) hts in_X17 (hts _ q1077); exact ⟨(c, i), fun q hq => by cases hq; exact h⟩
  | k + 34 => exact ⟨(0, fun _ => 0), fun q hq => by
      have h1 : clT.length ≤ k + 34 := by show 34 ≤ k + 34; omega
      rw [List.getElem?_eq_none h1] at hq
      cases hq⟩
theorem arr_P {args : Array Value} {s : State} {ty : FieldType} (h : (Cond.arrayClass ty).before args s = true) (hR : ∀ c, s.vm.findClass ("[" ++ ty.toString) = some c → va_RA s c ty) : ∃ cA, ArrOfT s cA ty ∧ va_RA s cA ty := by
  obtain ⟨c, k, comp, h1, h2, h3⟩ := Cond.arrayClass_spec h
  exact ⟨c, fun n z => ⟨fun k h => (by cases h), k, h2, comp, h3⟩, hR c h1⟩
theorem arr_O {args : Array Value} {s : State} {C : String} (h : (Cond.arrayOver (.object C)).before args s = true) : ∃ cA, ArrOfT s cA (.object C) ∧ va_RA s cA (.object C) := by
  obtain ⟨comp, c, k, h1, h2, h3, h4, h5⟩ := Cond.arrayOver_spec h
  exact ⟨c, fun n z => ⟨fun k h => (by cases h), k, h3, comp, h4⟩, k, comp, h3, h4, h1, h5⟩
theorem arr_A {args : Array Value} {s : State} {ty : FieldType} (h : (Cond.arrayOver (.array ty)).before args s = true) : ∃ cA, ArrOfT s cA (.array ty) ∧ va_RA s cA (.array ty) := by
  obtain ⟨comp, c, k, h1, h2, h3, h4, h5⟩ := arrayOverA_spec h
  exact ⟨c, fun n z => ⟨fun k h => (by cases h), k, h3, comp, h4⟩, h5⟩
def tyL : List FieldType := [.int, .byte, .boolean, .long, (.object "RainWheel$Plan"), (.array (.object "RainWheel$Plan")), (.object "RainWheel$Watch"), (.array .int), (.object "java/lang/String")]
theorem start_A {args : Array Value} {s : State} (hts : ∀ w ∈ lw_tbl, w.before args s = true) : ∀ k : Nat, ∃ cA : ClassId, ∀ ty : FieldType, tyL[k]? = some ty → ArrOfT s cA ty ∧ va_RA s cA ty := by
  intro k
  match k with
  | 0 => obtain ⟨c, h⟩ := arr_P (hts _ (lw_all_tbl q168)) (fun _ h => h); exact ⟨c, fun q hq => by cases hq; exact h⟩
  | 1 => obtain ⟨c, h⟩ := arr_P (hts _ (lw_all_tbl q145)) (fun _ h => h); exact ⟨c, fun q hq => by cases hq; exact h⟩
  | 2 => obtain ⟨c, h⟩ := arr_P (hts _ (lw_all_tbl q1768)) (fun _ h => h); exact ⟨c, fun q hq => by cases hq; exact h⟩
  | 3 => obtain ⟨c, h⟩ := arr_P (hts _ (lw_all_tbl q2249)) (fun _ h => h); exact ⟨c, fun q hq => by cases hq; exact h⟩
  | 4 => obtain ⟨c, h⟩ := arr_O (hts _ q169); exact ⟨c, fun q hq => by cases hq; exact h⟩
  | 5 => obtain ⟨c, h⟩ := arr_A (hts _ q171); exact ⟨c, fun q hq => by cases hq; exact h⟩
  | 6 => obtain ⟨c, h⟩ := arr_O (hts _ q277); exact ⟨c, fun q hq => by cases hq; exact h⟩
  | 7 => obtain ⟨c, h⟩ := arr_A (hts _ q354); exact ⟨c, fun q hq => by cases hq; exact h⟩
  | 8 => obtain ⟨c, h⟩ := arr_O (hts _ q814); exact ⟨c, fun q hq => by cases hq; exact h⟩
  | k + 9 => exact ⟨0, fun q hq => by
      have h1 : tyL.length ≤ k + 9 := by show 9 ≤ k + 9; omega
      rw [List.getElem?_eq_none h1] at hq
      cases hq⟩
theorem start_K {s : State} {b0 : Addr} (hts : ∀ w ∈ lw_tbl, w.before #[Value.ref b0] s = true) (hgv : (Jvm.Cond.and given_1 narrow_1).before #[Value.ref b0] s = true) : ∃ (D : va_G) (dA : Nat → ClassId), va_K D clT (tysA dA) s ∧ SAd D s b0 := by
  obtain ⟨fc, hfc⟩ := Classical.axiomOfChoice (start_C (fun w h => hts w (lw_all_tbl h)))
  obtain ⟨fa, hfa⟩ := Classical.axiomOfChoice (start_A hts)
  have hs : ∀ (l : List Nat) {c : Cond}, pickC l PG = c → c.before #[Value.ref b0] s = true := fun l c e => e ▸ pick_before l PG hgv
  have hx : ∀ j, ∃ a : Nat, j < 39 → (stm j).eval #[Value.ref b0] s none [] s = some (.ref a) := fun j => by
    by_cases hj : j < 39
    · obtain ⟨a, c, cA, kA, q1, -⟩ := Cond.exactly_spec (hs _ (str_ex j hj))
      exact ⟨a, fun _ => q1⟩
    · exact ⟨0, fun h => absurd h hj⟩
  obtain ⟨ft, hft⟩ := Classical.axiomOfChoice hx
  refine ⟨(fun k => (fc k).1, fun k j => if k = 1000 then ft j else (fc k).2 j), fa, ⟨fun k q hq => ?_, fun k q hq => ?_⟩, fun j hj => ?_⟩
  · have hk : k ≠ 1000 := fun e => by
      subst e
      rw [List.getElem?_eq_none (show clT.length ≤ 1000 from Nat.le_of_ble_eq_true rfl)] at hq
      cases hq
    have e : (fun j => if k = 1000 then ft j else (fc k).2 j) = (fc k).2 := funext fun j => if_neg hk
    show u_Kn s q.1 q.2.1 q.2.2 (fc k).1 (fun j => if k = 1000 then ft j else (fc k).2 j)
    rw [e]
    exact hfc k q hq
  · match k, hq with
    | 0, hq => cases hq; exact hfa 0 _ rfl
    | 1, hq => cases hq; exact hfa 1 _ rfl
    | 2, hq => cases hq; exact hfa 2 _ rfl
    | 3, hq => cases hq; exact hfa 3 _ rfl
    | 4, hq => cases hq; exact hfa 4 _ rfl
    | 5, hq => cases hq; exact hfa 5 _ rfl
    | 6, hq => cases hq; exact hfa 6 _ rfl
    | 7, hq => cases hq; exact hfa 7 _ rfl
    | 8, hq => cases hq; exact hfa 8 _ rfl
    | k + 9, hq =>
      have h1 : (tysA fa).length ≤ k + 9 := by show 9 ≤ k + 9; omega
      rw [List.getElem?_eq_none h1] at hq
      cases hq
  · show (stm j).eval _ s none [] s = some (.ref (if 1000 = 1000 then ft j else (fc 1000).2 j))
    rw [if_pos rfl]
    exact hft j hj
theorem df_17 : ∀ j, j < 18 → (lt_ 17 j).1 = 0 ∧ defaultValue (tyX1 j) = .int 0 ∨ (3 ≤ (lt_ 17 j).1 ∧ defaultValue (tyX1 j) = .null) := by
  intro j hj
  match j, hj with
  | 0, _ => exact Or.inr ⟨by decide, rfl⟩
  | 1, _ => exact Or.inr ⟨by decide, rfl⟩
  | 2, _ => exact Or.inr ⟨by decide, rfl⟩
  | 3, _ => exact Or.inr ⟨by decide, rfl⟩
  | 4, _ => exact Or.inr ⟨by decide, rfl⟩
  | 5, _ => exact Or.inr ⟨by decide, rfl⟩
  | 6, _ => exact Or.inr ⟨by decide, rfl⟩
  | 7, _ => exact Or.inr ⟨by decide, rfl⟩
  | 8, _ => exact Or.inr ⟨by decide, rfl⟩
  | 9, _ => exact Or.inr ⟨by decide, rfl⟩
  | 10, _ => exact Or.inr ⟨by decide, rfl⟩
  | 11, _ => exact Or.inr ⟨by decide, rfl⟩
  | 12, _ => exact Or.inr ⟨by decide, rfl⟩
  | 13, _ => exact Or.inl ⟨by decide, rfl⟩
  | 14, _ => exact Or.inl ⟨by decide, rfl⟩
  | 15, _ => exact Or.inl ⟨by decide, rfl⟩
  | 16, _ => exact Or.inl ⟨by decide, rfl⟩
  | 17, _ => exact Or.inl ⟨by decide, rfl⟩
  | (n + 18), h => exact absurd h (by omega)
theorem df_26 : ∀ j, j < 73 → (lt_ 26 j).1 = 0 ∧ defaultValue (tyX10 j) = .int 0 ∨ (3 ≤ (lt_ 26 j).1 ∧ defaultValue (tyX10 j) = .null) := by
  intro j hj
  match j, hj with
  | 0, _ => exact Or.inl ⟨by decide, rfl⟩
  | 1, _ => exact Or.inr ⟨by decide, rfl⟩
  | 2, _ => exact Or.inl ⟨by decide, rfl⟩
  | 3, _ => exact Or.inl ⟨by decide, rfl⟩
  | 4, _ => exact Or.inl ⟨by decide, rfl⟩
  | 5, _ => exact Or.inl ⟨by decide, rfl⟩
  | 6, _ => exact Or.inl ⟨by decide, rfl⟩
  | 7, _ => exact Or.inl ⟨by decide, rfl⟩
  | 8, _ => exact Or.inl ⟨by decide, rfl⟩
  | 9, _ => exact Or.inr ⟨by decide, rfl⟩
  | 10, _ => exact Or.inr ⟨by decide, rfl⟩
  | 11, _ => exact Or.inr ⟨by decide, rfl⟩
  | 12, _ => exact Or.inr ⟨by decide, rfl⟩
  | 13, _ => exact Or.inr ⟨by decide, rfl⟩
  | 14, _ => exact Or.inr ⟨by decide, rfl⟩
  | 15, _ => exact Or.inr ⟨by decide, rfl⟩
  | 16, _ => exact Or.inr ⟨by decide, rfl⟩
  | 17, _ => exact Or.inr ⟨by decide, rfl⟩
  | 18, _ => exact Or.inr ⟨by decide, rfl⟩
  | 19, _ => exact Or.inr ⟨by decide, rfl⟩
  | 20, _ => exact Or.inr ⟨by decide, rfl⟩
  | 21, _ => exact Or.inr ⟨by decide, rfl⟩
  | 22, _ => exact Or.inr ⟨by decide, rfl⟩
  | 23, _ => exact Or.inr ⟨by decide, rfl⟩
  | 24, _ => exact Or.inr ⟨by decide, rfl⟩
  | 25, _ => exact Or.inr ⟨by decide, rfl⟩
  | 26, _ => exact Or.inl ⟨by decide, rfl⟩
  | 27, _ => exact Or.inl ⟨by decide, rfl⟩
  | 28, _ => exact Or.inl ⟨by decide, rfl⟩
  | 29, _ => exact Or.inl ⟨by decide, rfl⟩
  | 30, _ => exact Or.inl ⟨by decide, rfl⟩
  | 31, _ => exact Or.inl ⟨by decide, rfl⟩
  | 32, _ => exact Or.inl ⟨by decide, rfl⟩
  | 33, _ => exact Or.inl ⟨by decide, rfl⟩
  | 34, _ => exact Or.inl ⟨by decide, rfl⟩
  | 35, _ => exact Or.inl ⟨by decide, rfl⟩
  | 36, _ => exact Or.inl ⟨by decide, rfl⟩
  | 37, _ => exact Or.inr ⟨by decide, rfl⟩
  | 38, _ => exact Or.inr ⟨by decide, rfl⟩
  | 39, _ => exact Or.inr ⟨by decide, rfl⟩
  | 40, _ => exact Or.inr ⟨by decide, rfl⟩
  | 41, _ => exact Or.inr ⟨by decide, rfl⟩
  | 42, _ => exact Or.inl ⟨by decide, rfl⟩
  | 43, _ => exact Or.inl ⟨by decide, rfl⟩
  | 44, _ => exact Or.inr ⟨by decide, rfl⟩
  | 45, _ => exact Or.inr ⟨by decide, rfl⟩
  | 46, _ => exact Or.inr ⟨by decide, rfl⟩
  | 47, _ => exact Or.inr ⟨by decide, rfl⟩
  | 48, _ => exact Or.inr ⟨by decide, rfl⟩
  | 49, _ => exact Or.inl ⟨by decide, rfl⟩
  | 50, _ => exact Or.inl ⟨by decide, rfl⟩
  | 51, _ => exact Or.inr ⟨by decide, rfl⟩
  | 52, _ => exact Or.inr ⟨by decide, rfl⟩
  | 53, _ => exact Or.inr ⟨by decide, rfl⟩
  | 54, _ => exact Or.inr ⟨by decide, rfl⟩
  | 55, _ => exact Or.inr ⟨by decide, rfl⟩
  | 56, _ => exact Or.inr ⟨by decide, rfl⟩
  | 57, _ => exact Or.inr ⟨by decide, rfl⟩
  | 58, _ => exact Or.inl ⟨by decide, rfl⟩
  | 59, _ => exact Or.inr ⟨by decide, rfl⟩
  | 60, _ => exact Or.inr ⟨by decide, rfl⟩
  | 61, _ => exact Or.inr ⟨by decide, rfl⟩
  | 62, _ => exact Or.inr ⟨by decide, rfl⟩
  | 63, _ => exact Or.inl ⟨by decide, rfl⟩
  | 64, _ => exact Or.inl ⟨by decide, rfl⟩
  | 65, _ => exact Or.inl ⟨by decide, rfl⟩
  | 66, _ => exact Or.inl ⟨by decide, rfl⟩
  | 67, _ => exact Or.inr ⟨by decide, rfl⟩
  | 68, _ => exact Or.inl ⟨by decide, rfl⟩
  | 69, _ => exact Or.inr ⟨by decide, rfl⟩
  | 70, _ => exact Or.inl ⟨by decide, rfl⟩
  | 71, _ => exact Or.inr ⟨by decide, rfl⟩
  | 72, _ => exact Or.inl ⟨by decide, rfl⟩
  | (n + 73), h => exact absurd h (by omega)
theorem hdI_M1 : yX1_init.name = "<init>" ∧ yX1_init.cls ≠ "java/lang/invoke/MethodHandle" ∧ yX1_init.cls ≠ "java/lang/invoke/VarHandle" ∧ (parseMethodDescriptor yX1_init.desc).map (fun d => d.parameters.length) = some 0 := by decide +kernel
theorem hdI_M10 : yX10_init.name = "<init>" ∧ yX10_init.cls ≠ "java/lang/invoke/MethodHandle" ∧ yX10_init.cls ≠ "java/lang/invoke/VarHandle" ∧ (parseMethodDescriptor yX10_init.desc).map (fun d => d.parameters.length) = some 0 := by decide +kernel
/-- what the two constructors come to -/
def law_first (N : Nat) (R : Nat → (Nat → Nat) → Nat → GS → GS → Prop) : Prop :=
  ∃ (s : S3) (gm : GS), x_init N 0 (ku KZ 0 18) 1 (newI 17 0 g00) = some s ∧ dnOK 0 0 s.1 s.2.2 ∧ s.2.1 = 350 ∧ (∀ i, i < 350 → ku s.1 0 1 i = kx0 i) ∧ m_init N (newI 26 0 g00) = some gm ∧ R 0 (ku (ku s.1 0 1) 393 40001) 394 (newA 393 0 (dnI 0 0 s.2.2)) gm
def law_step (N : Nat) (R : Nat → (Nat → Nat) → Nat → GS → GS → Prop) : Prop :=
  ∀ (t : Nat) (K : Nat → Nat) (z : Nat) (g gm : GS) (v a1 a2 a3 a4 a5 a6 : Int), t < 64 → w32 a1 = a1 → w32 a2 = a2 → w32 a3 = a3 → w32 a4 = a4 → w32 a5 = a5 → w32 a6 = a6 → R t K z g gm → KI K z → ∃ r, lcI v N K z g gm a1 a2 a3 a4 a5 a6 = some r ∧ R (t + 1) r.1.1 r.1.2.1 r.1.2.2 r.2
set_option maxHeartbeats 4000000 in
theorem start_of (N : Nat) (R : Nat → (Nat → Nat) → Nat → GS → GS → Prop) (h0 : law_first N R) (hT : law_step N R) {p : Program} {e : Env} {s : State} {m : MethodId} {below : List Frame} {meth : Method} {c : Code} (l : Launch) (hflags : l.flags = flags0) {b L : Nat} {xs : Nat → Int32} (hL : L ≤ 448) (C0 : lw_At p s m meth c b L xs) : W p l e room_1 s m #[Value.ref b] below meth c s.heap [] 0 0 (lw_Z below #[Value.ref b] s) (entryFrame m ([Value.ref b] : List Value).toArray 8) := by
  obtain ⟨hx, hb, hr, hml, hown, hts, hXs, hbl, hlocks, hgv⟩ := id C0
  obtain ⟨D, dA, hKK, hSAd⟩ := start_K hts hgv
  have X : XOK ((p, l, e, room_1, s, m), (#[Value.ref b], below, meth, c, lw_Z below #[Value.ref b] s, fun q => s.heap.size ≤ q), (D, dA, s.heap.size)) code 8 RX0 (some .boolean) room_1 := ⟨hx, hb, hml, hown, fun w h => hts w (lw_all_tbl h), hr, hlocks, hKK, rfl, ⟨s, b, hgv, hts, State.WarmedH.refl _, Nat.le_refl _, Nat.le_refl _, fun q hq => rfl, hSAd⟩, fun q h => h, hflags⟩
  generalize hxe : (((p, l, e, room_1, s, m), (#[Value.ref b], below, meth, c, lw_Z below #[Value.ref b] s, fun q => s.heap.size ≤ q), (D, dA, s.heap.size)) : CT) = x at X
  have hxb : xb x = s.heap.size := by rw [← hxe]
  have hA : ∀ q, xb x ≤ q → x.2.1.2.2.2.2.2 q := by rw [← hxe]; exact fun q h => h
  have hX : XM_ x code 8 RX0 (some .boolean) b L xs := ⟨X, hA, by rw [← hxe]; exact hXs, by rw [← hxe]; exact hbl, by rw [← hxe]; exact Nat.le_refl _, hL⟩
  have hend : ∀ (H : Heap) (locs : List Loc) (ls : Array Slot) (z : Nat), z ≤ MX → (∀ q ∈ locs, x.2.1.2.2.2.2.2 q.base) → W x.1.1 x.1.2.1 x.1.2.2.1 x.1.2.2.2.1 x.1.2.2.2.2.1 x.1.2.2.2.2.2 x.2.1.1 x.2.1.2.1 x.2.1.2.2.1 x.2.1.2.2.2.1 H locs z (600 * z) x.2.1.2.2.2.2.1 (F0 x.1.2.2.2.2.2 2925 ls [vI 1]) := by
    rw [← hxe]
    intro H locs ls z hz hl
    have hMX : MX = 12000 := rfl
    refine va_forget (fun q hq => hl q hq) (W.widen (k := 601024) (n := 7293034) (by omega) (by omega) ?_)
    exact lw_ret hx hb hr hlocks dL_law_2925
  obtain ⟨s1, gm, e1, e2, e3, e4, e5, e6⟩ := h0
  have hV : V x 8 KZ 0 (600 * 0) 0 g00 0 [(0, .ref b)] [] := by
    refine V_newR (ci := 17) (N := 18) (C := RX1) (T := TX1) X hA (Nat.le_of_ble_eq_true rfl) rfl in_X1 tyX1 tyX1_ok (by decide) (by decide) q126 q127 q96 df_17 dL_law_0 ?_
    refine V_dup X dL_law_3 rfl ?_
    have hKS : KS false (ku KZ 0 18) 1 (ku KZ 0 18) 1 := ⟨Nat.le_refl _, Nat.le_of_ble_eq_true rfl, fun o ho => ku_ne (by omega), fun _ _ => rfl, fun h => by cases h⟩
    refine V_callIR (As := []) (rest := [.ref (xb x + 0)]) (s1 := [.ref (xb x + 0)]) (o := 0) X hA (Nat.le_of_ble_eq_true rfl) (con_x_init false N 0 (ku KZ 0 18) 1 hKS ku_self (newI 17 0 g00) s1 e1) q128 q129 q96 q130 hdI_M1 ⟨Nat.le_of_ble_eq_true rfl, Nat.le_of_ble_eq_true rfl⟩ rfl rfl (Nat.le_of_ble_eq_true rfl) dL_law_4 rfl rfl (fun hKSc => ?_)
    have hKo : s1.1 0 = 18 := (hKSc.2.2.2.1 0 (by decide)).trans ku_self
    refine V_done (ci := 0) (N := 18) (o := 0) (C := RX1) (T := TX1) X rfl rfl (by decide) (by decide) hKo e2 ?_
    have hz : ∀ o, 350 ≤ o → ku s1.1 0 1 o = 0 := fun o ho => by
      rw [ku_ne (by omega)]
      exact hKSc.2.2.1 o (by show s1.2.1 ≤ o; omega)
    show V x 8 (ku s1.1 0 1) s1.2.1 (600 * s1.2.1) s1.2.1 (dnI 0 0 s1.2.2) 7 [(0, .ref b)] [.ref (xb x + 0)]
    rw [e3]
    refine V_astore_n X dL_law_7 (by decide) (L' := [(1, .ref (xb x + 0)), (0, .ref b)]) rfl ?_
    refine V_newR (ci := 26) (N := 73) (C := RX10) (T := TX10) X hA (Nat.le_of_ble_eq_true rfl) rfl in_X10 tyX10 tyX10_ok (by decide) (by decide) q1530 q1531 q105 df_26 dL_law_8 ?_
    refine V_dup X dL_law_11 rfl ?_
    refine V_initM (N := N) (gm := gm) X hA hz e5 q1532 hdI_M10 q1533 q105 q1534 df_26 (Nat.le_of_ble_eq_true rfl) dL_law_12 ?_
    refine VM_astore_n X dL_law_15 (by decide) (L' := [(2, .ref (xb x + 350)), (1, .ref (xb x + 0)), (0, .ref b)]) rfl ?_
    refine VM_iconst X dL_law_16 ?_
    refine VM_newarrL (N := 1) X hA (Nat.le_of_ble_eq_true rfl) q2249 (by decide) dL_law_17 ?_
    refine VM_astore_n X dL_law_19 (by decide) (L' := [(3, .ref (xb x + 393)), (2, .ref (xb x + 350)), (1, .ref (xb x + 0)), (0, .ref b)]) rfl ?_
    refine VM_iconst X dL_law_20 ?_
    refine VM_istore X dL_law_21 (by decide) (L' := [(4, vI 0), (3, .ref (xb x + 393)), (2, .ref (xb x + 350)), (1, .ref (xb x + 0)), (0, .ref b)]) rfl ?_
    refine VM_sub [0, 4, 3, 2, 1] rfl ?_
    have hW : WFK (ku s1.1 0 1) := WFK_of e4 hz
    have hKI : KI (ku (ku s1.1 0 1) 393 40001) 394 := by
      refine ⟨⟨WFK_ku hW (by decide) (hz 393 (by decide)) rfl, by decide, fun o ho => by rw [ku_ne (by omega)]; exact hz o (by omega)⟩, Nat.le_of_ble_eq_true rfl, Nat.le_refl _, ku_self, fun o h1 h2 => by rw [ku_ne (by omega)]; exact hz o h1⟩
    exact law_loop hX hend hT (L / 7) 0 _ _ _ _ (by omega) (by omega) e6 hKI
  have h9 := hV
  rw [← hxe] at h9
  have hl := lv_entry ([.ref b]) (n := 8) (Nat.le_of_ble_eq_true rfl)
  rw [lg_entry_eq]
  exact h9 s.heap [] _ ⟨fun o => cOK.none, fun o ho => absurd rfl ho, rfl, va_S.rf⟩ hl
