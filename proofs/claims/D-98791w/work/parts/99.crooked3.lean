set_option maxRecDepth 100000
/-! PLAIN 40: how crooked a row is: the two checks agree -/
theorem or_dbl (b k : Nat) : (2 * b) ||| 2 ^ (k + 1) = 2 * (b ||| 2 ^ k) := by
  rw [Nat.pow_succ, Nat.mul_comm (2 ^ k) 2]
  apply Nat.eq_of_testBit_eq
  intro i
  rw [Nat.testBit_or]
  cases i with
  | zero => simp
  | succ i =>
    rw [Nat.testBit_succ, Nat.testBit_succ, Nat.testBit_succ, Nat.mul_div_cancel_left _ (by omega), Nat.mul_div_cancel_left _ (by omega), Nat.mul_div_cancel_left _ (by omega), Nat.testBit_or]
theorem bit_dbl (b k : Nat) : (2 * b).testBit (k + 1) = b.testBit k := by
  rw [Nat.testBit_succ, Nat.mul_div_cancel_left _ (by omega)]
theorem crX_chM {n : Nat} (hn : 3 ≤ n ∧ n ≤ 6) : ∀ (f u b s m : Nat) (l : Option Nat), b < 2 ^ n → (∃ r, crX n f u b l s = some r) → ∃ b', chM f u (2 * b) m = (m + cntD f u, 2 * b', true) ∧ b' < 2 ^ n ∧ popS b' = popS b + cntD f u
  | 0, u, b, s, m, l, hb, h => ⟨b, rfl, hb, by simp [cntD]⟩
  | f + 1, u, b, s, m, l, hb, h => by
    have hp6 : 2 ^ n ≤ 2 ^ 6 := Nat.pow_le_pow_right (by omega) hn.2
    obtain ⟨r, hr⟩ := h
    rw [crX_succ] at hr
    by_cases c : u = 0
    · rw [chM_succ, if_pos c, cntD, if_pos c]
      exact ⟨b, rfl, hb, by simp⟩
    · rw [if_neg c] at hr
      rw [chM_succ, if_neg c, cntD, if_neg c]
      cases hok : okD n b (u % 10)
      · rw [hok] at hr; cases hr
      · rw [hok] at hr
        have h1 : (1 ≤ u % 10 ∧ u % 10 ≤ n) ∧ b.testBit (u % 10 - 1) = false := by
          unfold okD at hok
          rw [Bool.and_eq_true, Bool.and_eq_true, decide_eq_true_iff, decide_eq_true_iff, Bool.not_eq_true'] at hok
          exact hok
        obtain ⟨k, hk⟩ : ∃ k, u % 10 = k + 1 := ⟨u % 10 - 1, by omega⟩
        rw [hk, Nat.add_sub_cancel] at h1 hr
        have hbn : b ||| 2 ^ k < 2 ^ n := Nat.or_lt_two_pow hb (Nat.pow_lt_pow_of_lt (by omega) (by omega))
        rw [hk, if_pos ⟨by omega, by rw [bit_dbl]; exact h1.2⟩, or_dbl]
        obtain ⟨b', q1, q2, q3⟩ := crX_chM hn f (u / 10) (b ||| 2 ^ k) _ (m + 1) _ hbn ⟨r, hr⟩
        refine ⟨b', by rw [q1]; congr 1; omega, q2, ?_⟩
        rw [q3, pop_or b (by omega) k (by omega) h1.2]
        omega
theorem chM_ge : ∀ (f u b m : Nat), b ≤ (chM f u b m).2.1
  | 0, u, b, m => Nat.le_refl _
  | f + 1, u, b, m => by
    rw [chM_succ]
    split
    · exact Nat.le_refl _
    · split
      · exact Nat.le_trans Nat.left_le_or (chM_ge f _ _ _)
      · exact Nat.left_le_or
theorem chM_crX {n : Nat} (hn : 3 ≤ n ∧ n ≤ 6) : ∀ (f u b s m : Nat) (l : Option Nat), b < 2 ^ n → (chM f u (2 * b) m).2.2 = true → (chM f u (2 * b) m).2.1 < 2 ^ (n + 1) → ∃ r, crX n f u b l s = some r
  | 0, u, b, s, m, l, hb, h, h2 => ⟨s, rfl⟩
  | f + 1, u, b, s, m, l, hb, h, h2 => by
    rw [crX_succ]
    rw [chM_succ] at h h2
    by_cases c : u = 0
    · rw [if_pos c]; exact ⟨s, rfl⟩
    · rw [if_neg c] at h h2 ⊢
      by_cases c2 : 1 ≤ u % 10 ∧ (2 * b).testBit (u % 10) = false
      · rw [if_pos c2] at h h2
        obtain ⟨k, hk⟩ : ∃ k, u % 10 = k + 1 := ⟨u % 10 - 1, by omega⟩
        have hge := chM_ge f (u / 10) (2 * b ||| 2 ^ (u % 10)) (m + 1)
        have hr : 2 ^ (u % 10) ≤ 2 * b ||| 2 ^ (u % 10) := Nat.right_le_or
        have hlt : u % 10 < n + 1 := (Nat.pow_lt_pow_iff_right (a := 2) (by omega)).mp (by omega)
        rw [hk, bit_dbl] at c2
        have hok : okD n b (u % 10) = true := by
          unfold okD
          rw [hk, Nat.add_sub_cancel, c2.2, decide_eq_true (by omega), decide_eq_true (by omega)]; rfl
        rw [hok, if_pos rfl]
        rw [hk, or_dbl] at h h2
        rw [hk, Nat.add_sub_cancel]
        have hbn : b ||| 2 ^ k < 2 ^ n := Nat.or_lt_two_pow hb (Nat.pow_lt_pow_of_lt (by omega) (by omega))
        exact chM_crX hn f (u / 10) (b ||| 2 ^ k) _ (m + 1) _ hbn h h2
      · rw [if_neg c2] at h
        cases h
