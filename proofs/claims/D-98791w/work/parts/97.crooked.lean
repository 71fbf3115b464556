set_option maxRecDepth 100000
/-! PLAIN 38: how crooked a row is: RainWheel's loop -/
variable {N : Nat} {K K' : Nat → Nat} {t t' z z' r o : Nat} {g gm g1 gm1 : GS} {a1 a2 a3 a4 a5 a6 v w : Int} {a : Ab} {rd : Rd} {p : Pl}
def okD (n b d : Nat) : Bool := decide (1 ≤ d) && decide (d ≤ n) && !(b.testBit (d - 1))
def lad (n : Nat) (l : Option Nat) (d : Nat) : Nat := match l with
  | none => 0
  | some x => lacS n x d
def crX (n : Nat) : Nat → Nat → Nat → Option Nat → Nat → Option Nat
  | 0, _, _, _, s => some s
  | f + 1, u, b, l, s => if u = 0 then some s else if okD n b (u % 10) then crX n f (u / 10) (b ||| 2 ^ (u % 10 - 1)) (some (u % 10 - 1)) (s + lad n l (u % 10 - 1)) else none
theorem crX_succ (n f u b s : Nat) (l : Option Nat) : crX n (f + 1) u b l s = if u = 0 then some s else if okD n b (u % 10) then crX n f (u / 10) (b ||| 2 ^ (u % 10 - 1)) (some (u % 10 - 1)) (s + lad n l (u % 10 - 1)) else none := rfl
def laI : Option Nat → Int
  | none => -1
  | some x => x
theorem x_crX (hN : 100000000000000000000 ≤ N) {n : Nat} (hn : 3 ≤ n ∧ n ≤ 6) : ∀ (f u b s : Nat) (l : Option Nat), f ≤ 7 → u < 10 ^ f → b < 2 ^ n → s ≤ 100 - 3 * f → (∀ x, l = some x → x < n) → ∀ M, f < M → loopN (fun q => x_crooked_b48 N n q.1 q.2.1 q.2.2.1 q.2.2.2.1 q.2.2.2.2) M (g, (b : Int), (s : Int), laI l, (u : Int)) = some (match crX n f u b l s with
    | some r => .inr ((r : Int), g)
    | none => .inl (1, sA g 12 1 (gA g 12 1 + 1)))
  | f, u, b, s, l, hf, hu, hb, hs, hl, 0, hM => by omega
  | 0, u, b, s, l, hf, hu, hb, hs, hl, M + 1, hM => by
    have : u = 0 := by simp at hu; exact hu
    subst this
    rfl
  | f + 1, u, b, s, l, hf, hu, hb, hs, hl, M + 1, hM => by
    have hu2 : u < 10000000 := by
      have : 10 ^ (f + 1) ≤ 10 ^ 7 := Nat.pow_le_pow_right (by omega) hf
      omega
    have hp6 : 2 ^ n ≤ 2 ^ 6 := Nat.pow_le_pow_right (by omega) hn.2
    by_cases c : u = 0
    · subst c
      rw [crX_succ, if_pos rfl]
      rfl
    · have hd9 : u % 10 < 10 := Nat.mod_lt _ (by omega)
      have hu10 : u / 10 < 10 ^ f := by rw [Nat.pow_succ] at hu; omega
      have r10 := rem10 (q := u) (by omega)
      have d10 := div10 (q := u) (by omega)
      rw [crX_succ, if_neg c, loopN]
      have hll : -1 ≤ laI l ∧ laI l < 6 := by
        cases l with
        | none => exact ⟨by decide, by decide⟩
        | some x =>
          have := hl x rfl
          show -1 ≤ (x : Int) ∧ (x : Int) < 6
          omega
      have B0 : x_crooked_b48 N n g b s (laI l) u = if okD n b (u % 10) then some (.inl (g, (((b ||| 2 ^ (u % 10 - 1) : Nat)) : Int), (((s + lad n l (u % 10 - 1) : Nat)) : Int), laI (some (u % 10 - 1)), ((u / 10 : Nat) : Int))) else some (.inr (.inl (1, sA g 12 1 (gA g 12 1 + 1)))) := by
        unfold x_crooked_b48
        rw [w32_of (by omega) (by omega), if_neg (by omega), r10]
        by_cases c1 : 1 ≤ u % 10 ∧ u % 10 ≤ n
        · obtain ⟨k, hk⟩ : ∃ k, u % 10 = k + 1 := ⟨u % 10 - 1, by omega⟩
          have ek : ((u % 10 : Nat) : Int) - 1 = (k : Int) := by omega
          have hbit := bit_at (n := b) (k := k) (by omega) (by omega)
          rw [ek, x_within_ok (by rw [w32_z, w32_of (by omega) (by omega)]; omega) (by rw [w32_of (by omega) (by omega), w32_of (by omega) (by omega)]; omega), obind_some]
          dsimp only [thT]
          rw [hbit]
          cases hq : b.testBit k
          · have hok : okD n b (u % 10) = true := by unfold okD; rw [hk, Nat.add_sub_cancel, hq, decide_eq_true (by omega), decide_eq_true (by omega)]; rfl
            rw [if_pos hok, x_within_ok (by decide) (by decide), obind_some]
            dsimp only
            rw [hk, Nat.add_sub_cancel, shl_one (by omega), i_or_nat (by omega) (by have : 2 ^ k ≤ 2 ^ 6 := Nat.pow_le_pow_right (by omega) (by omega); omega), w32_of (by omega) (by omega), w32_m1]
            cases l with
            | none =>
              rw [show laI none = -1 from rfl, if_pos rfl]
              unfold x_crooked_j110
              rw [d10]; rfl
            | some x =>
              have hx := hl x rfl
              rw [show laI (some x) = (x : Int) from rfl, if_neg (show ¬ ((x : Int) = -1) by omega), lacks_eq n (by omega) x hx k (by omega), obind_some]
              unfold x_crooked_j110
              rw [d10, ← Int.natCast_add]; rfl
          · have hok : okD n b (u % 10) = false := by unfold okD; rw [hk, Nat.add_sub_cancel, hq, Bool.not_true, Bool.and_false]
            rw [hok, x_within_no (by decide), obind_some]
            rfl
        · have hok : okD n b (u % 10) = false := by
            unfold okD
            by_cases q1 : 1 ≤ u % 10
            · rw [decide_eq_false (show ¬ u % 10 ≤ n by omega), Bool.and_false, Bool.false_and]
            · rw [decide_eq_false q1, Bool.false_and, Bool.false_and]
          rw [hok, x_within_no (by rw [w32_z, w32_of (by omega) (by omega), w32_of (by omega) (by omega)]; omega), obind_some]
          rfl
      dsimp only
      rw [B0]
      cases hok : okD n b (u % 10)
      · rfl
      · have h1 : 1 ≤ u % 10 ∧ u % 10 ≤ n := by
          unfold okD at hok
          rw [Bool.and_eq_true, Bool.and_eq_true, decide_eq_true_iff, decide_eq_true_iff] at hok
          exact hok.1
        have hbn : b ||| 2 ^ (u % 10 - 1) < 2 ^ n := Nat.or_lt_two_pow hb (Nat.pow_lt_pow_of_lt (by omega) (by omega))
        refine x_crX hN hn f (u / 10) (b ||| 2 ^ (u % 10 - 1)) _ (some (u % 10 - 1)) (by omega) hu10 hbn ?_ (fun x hx => by cases hx; omega) M (by omega)
        cases l with
        | none => show s + 0 ≤ _; omega
        | some x =>
          have := lacS_le n (by omega) x (hl x rfl) (u % 10 - 1) (by omega)
          show s + lacS n x (u % 10 - 1) ≤ _
          omega
