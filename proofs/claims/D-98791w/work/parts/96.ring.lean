set_option maxRecDepth 100000
/-! PLAIN 37: nuts in a ring: how much one lacks; digits -/
variable {N : Nat} {K K' : Nat → Nat} {t t' z z' r o : Nat} {g gm g1 gm1 : GS} {a1 a2 a3 a4 a5 a6 v w : Int} {a : Ab} {rd : Rd} {p : Pl}
def lacS (n x y : Nat) : Nat := n / 2 - min (max x y - min x y) (n - (max x y - min x y))
theorem lacks_eq : ∀ n : Nat, n < 7 → ∀ x : Nat, x < n → ∀ y : Nat, y < n → xRing_lacks (n : Int) (x : Int) (y : Int) = some ((lacS n x y : Nat) : Int) := by decide +kernel
theorem crookedBy_0 : ∀ n : Nat, n < 7 → ∀ x : Nat, x < n → ∀ y : Nat, y < n → m_crookedBy g00 (n : Int) ((x + 1 : Nat) : Int) ((y + 1 : Nat) : Int) = some ((lacS n x y : Nat) : Int) := by decide +kernel
theorem crookedBy_eq {n x y : Nat} (hn : n < 7) (hx : x < n) (hy : y < n) : m_crookedBy g (n : Int) ((x + 1 : Nat) : Int) ((y + 1 : Nat) : Int) = some ((lacS n x y : Nat) : Int) := crookedBy_0 n hn x hx y hy
theorem lacS_le : ∀ n : Nat, n < 7 → ∀ x : Nat, x < n → ∀ y : Nat, y < n → lacS n x y ≤ 3 := by decide
theorem lacS_comm : ∀ n : Nat, n < 7 → ∀ x : Nat, x < n → ∀ y : Nat, y < n → lacS n x y = lacS n y x := by decide
theorem pop_or : ∀ b : Nat, b < 64 → ∀ k : Nat, k < 6 → b.testBit k = false → popS (b ||| 2 ^ k) = popS b + 1 := by decide +kernel
theorem pop_full : ∀ n : Nat, n < 7 → ∀ b : Nat, b < 2 ^ n → popS b = n → b = 2 ^ n - 1 := by decide +kernel
def cntD : Nat → Nat → Nat
  | 0, _ => 0
  | f + 1, q => if q = 0 then 0 else cntD f (q / 10) + 1
theorem div10 {q : Nat} (h : q < 2147483648) : i_div (q : Int) 10 = ((q / 10 : Nat) : Int) := i_div_nat (b := 10) h (by omega)
theorem rem10 {q : Nat} (h : q < 2147483648) : i_rem (q : Int) 10 = ((q % 10 : Nat) : Int) := i_rem_nat (b := 10) h (by omega)
theorem x_digits (hN : 100000000000000000000 ≤ N) {q : Nat} (hq : q < 2147483648) (l1 l3 l4 l5 : Int) : loopN (fun s => x_crooked_b13 N g l1 l3 l4 l5 s.1 s.2) N (0, (q : Int)) = some ((cntD 7 q : Nat) : Int) := by
  refine loop_val (fun s => ∃ i u : Nat, i ≤ 7 ∧ u < 2147483648 ∧ s = ((i : Int), (u : Int)) ∧ cntD (7 - i) u + i = cntD 7 q) (fun s => 7 - s.1.toNat) (fun s hs => ?_) ⟨0, q, by omega, hq, rfl, rfl⟩ (by dsimp only; omega)
  obtain ⟨i, u, h1, h2, rfl, h3⟩ := hs
  by_cases c : u = 0
  · right
    have : cntD (7 - i) u = 0 := by
      rw [c]
      cases 7 - i with
      | zero => rfl
      | succ f => rw [cntD, if_pos rfl]
    unfold x_crooked_b13
    dsimp only
    rw [w32_of (by omega) (by omega), if_pos (by omega), ← h3, this]
    simp
  · by_cases c7 : i = 7
    · right
      subst c7
      unfold x_crooked_b13
      dsimp only
      rw [w32_of (by omega) (by omega), if_neg (by omega), if_pos (by decide), ← h3]
      rfl
    · left
      obtain ⟨f, hf⟩ : ∃ f, 7 - i = f + 1 := ⟨6 - i, by omega⟩
      refine ⟨((i : Int) + 1, ((u / 10 : Nat) : Int)), ?_, ⟨i + 1, u / 10, by omega, by omega, rfl, ?_⟩, by dsimp only; omega⟩
      · unfold x_crooked_b13
        dsimp only
        rw [w32_of (by omega) (by omega), if_neg (by omega), w32_of (by omega) (by omega), w32_of (by omega) (by omega), if_neg (by omega), div10 h2]
      · rw [hf, cntD, if_neg c] at h3
        rw [show 7 - (i + 1) = f by omega]
        omega
