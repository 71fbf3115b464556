set_option maxRecDepth 100000
/-! PLAIN 39: how crooked a row is: the model's check -/
variable {N : Nat} {K K' : Nat → Nat} {t t' z z' r o : Nat} {g gm g1 gm1 : GS} {a1 a2 a3 a4 a5 a6 v w : Int} {a : Ab} {rd : Rd} {p : Pl}
def chM : Nat → Nat → Nat → Nat → Nat × Nat × Bool
  | 0, _, b, n => (n, b, true)
  | f + 1, u, b, n => if u = 0 then (n, b, true) else if 1 ≤ u % 10 ∧ b.testBit (u % 10) = false then chM f (u / 10) (b ||| 2 ^ (u % 10)) (n + 1) else (n + 1, b ||| 2 ^ (u % 10), false)
theorem chM_succ (f u b n : Nat) : chM (f + 1) u b n = if u = 0 then (n, b, true) else if 1 ≤ u % 10 ∧ b.testBit (u % 10) = false then chM f (u / 10) (b ||| 2 ^ (u % 10)) (n + 1) else (n + 1, b ||| 2 ^ (u % 10), false) := rfl
def bI (b : Bool) : Int := if b then 1 else 0
theorem m_chM (hN : 100000000000000000000 ≤ N) (l1 : Int) : ∀ (f u b n : Nat), f ≤ 7 → u < 10 ^ f → b < 1024 → n ≤ 7 - f → ∀ M, f + 1 < M → loopN (fun q => m_crooked_b30 N gm l1 q.1 q.2.1 q.2.2.1 q.2.2.2) M ((n : Int), (b : Int), 1, (u : Int)) = some (((chM f u b n).1 : Int), ((chM f u b n).2.1 : Int), bI (chM f u b n).2.2)
  | f, u, b, n, hf, hu, hb, hn, 0, hM => by omega
  | 0, u, b, n, hf, hu, hb, hn, M + 1, hM => by
    have : u = 0 := by simp at hu; exact hu
    subst this
    rfl
  | f + 1, u, b, n, hf, hu, hb, hn, M + 1, hM => by
    have hu2 : u < 10000000 := by
      have : 10 ^ (f + 1) ≤ 10 ^ 7 := Nat.pow_le_pow_right (by omega) hf
      omega
    by_cases c : u = 0
    · subst c
      rw [chM_succ, if_pos rfl]
      rfl
    · have hd9 : u % 10 < 10 := Nat.mod_lt _ (by omega)
      have hu10 : u / 10 < 10 ^ f := by rw [Nat.pow_succ] at hu; omega
      have r10 := rem10 (q := u) (by omega)
      have d10 := div10 (q := u) (by omega)
      have hbit := bit_at (n := b) (k := u % 10) (by omega) (by omega)
      have hp : 2 ^ (u % 10) ≤ 2 ^ 9 := Nat.pow_le_pow_right (by omega) (by omega)
      have hor : b ||| 2 ^ (u % 10) < 1024 := Nat.or_lt_two_pow (n := 10) hb (by omega)
      have ho := i_or_nat (a := b) (b := 2 ^ (u % 10)) (by omega) (by omega)
      rw [chM_succ, if_neg c, loopN]
      have B0 : ∀ is : Int, m_crooked_j66 N gm l1 n b u ((u % 10 : Nat) : Int) is = some (.inl (((n + 1 : Nat) : Int), ((b ||| 2 ^ (u % 10) : Nat) : Int), is, ((u / 10 : Nat) : Int))) := by
        intro is
        unfold m_crooked_j66
        rw [shl_one (by omega), ho, d10]; rfl
      have B1 : m_crooked_b30 N gm l1 n b 1 u = some (.inl (((n + 1 : Nat) : Int), ((b ||| 2 ^ (u % 10) : Nat) : Int), (if 1 ≤ u % 10 ∧ b.testBit (u % 10) = false then 1 else 0), ((u / 10 : Nat) : Int))) := by
        unfold m_crooked_b30 m_crooked_j65
        rw [w32_of (by omega) (by omega), if_neg (by omega), if_neg wz1, r10, w32_of (by omega) (by omega), B0, B0, hbit]
        by_cases q1 : 1 ≤ u % 10
        · rw [if_neg (by omega)]
          cases q2 : b.testBit (u % 10)
          · rw [if_neg (by decide), if_pos ⟨q1, rfl⟩]
          · rw [if_pos (by decide), if_neg (fun e => by cases e.2)]
        · rw [if_pos (by omega), if_neg (fun e => q1 e.1)]
      dsimp only
      rw [B1]
      by_cases q : 1 ≤ u % 10 ∧ b.testBit (u % 10) = false
      · rw [if_pos q, if_pos q]
        exact m_chM hN l1 f (u / 10) (b ||| 2 ^ (u % 10)) (n + 1) (by omega) hu10 hor (by omega) M (by omega)
      · rw [if_neg q, if_neg q]
        obtain ⟨M, rfl⟩ : ∃ M', M = M' + 1 := ⟨M - 1, by omega⟩
        show loopN (fun q => m_crooked_b30 N gm l1 q.1 q.2.1 q.2.2.1 q.2.2.2) (M + 1) (((n + 1 : Nat) : Int), ((b ||| 2 ^ (u % 10) : Nat) : Int), 0, ((u / 10 : Nat) : Int)) = _
        have B2 : m_crooked_b30 N gm l1 ((n + 1 : Nat) : Int) ((b ||| 2 ^ (u % 10) : Nat) : Int) 0 ((u / 10 : Nat) : Int) = some (.inr (((n + 1 : Nat) : Int), ((b ||| 2 ^ (u % 10) : Nat) : Int), 0)) := by
          unfold m_crooked_b30
          split
          · rfl
          · rw [if_pos w32_z]
        rw [loopN]
        dsimp only
        rw [B2]
        rfl
