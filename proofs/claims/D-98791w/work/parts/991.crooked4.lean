set_option maxRecDepth 100000
/-! PLAIN 41: how crooked a row is, on both sides -/
variable {N : Nat} {K K' : Nat → Nat} {t t' z z' r o : Nat} {g gm g1 gm1 : GS} {a1 a2 a3 a4 a5 a6 v w : Int} {a : Ab} {rd : Rd} {p : Pl}
theorem m_smX (hN : 100000000000000000000 ≤ N) {n : Nat} (hn : 3 ≤ n ∧ n ≤ 6) : ∀ (f u b s r d0 v S M : Nat), crX n f u b (some d0) s = some r → u < 10 ^ f → v / 10 = u → v % 10 = d0 + 1 → d0 < n → v < 10000000 → f < M → s ≤ r ∧ loopN (fun q => m_crooked_b136 N gm n q.1 q.2) M ((S : Int), (v : Int)) = some (((S + (r - s) : Nat) : Int), gm)
  | f, u, b, s, r, d0, v, S, 0, h, hu, h1, h2, h3, h4, h5 => by omega
  | 0, u, b, s, r, d0, v, S, M + 1, h, hu, h1, h2, h3, h4, h5 => by
    cases h
    have : u = 0 := by simp at hu; exact hu
    refine ⟨Nat.le_refl _, ?_⟩
    rw [loopN]
    unfold m_crooked_b136
    dsimp only
    rw [w32_of (by omega) (by omega), w32_of (by omega) (by omega), if_pos (by omega), Nat.sub_self]
    rfl
  | f + 1, u, b, s, r, d0, v, S, M + 1, h, hu, h1, h2, h3, h4, h5 => by
    rw [crX_succ] at h
    by_cases c : u = 0
    · rw [if_pos c] at h
      cases h
      refine ⟨Nat.le_refl _, ?_⟩
      rw [loopN]
      unfold m_crooked_b136
      dsimp only
      rw [w32_of (by omega) (by omega), w32_of (by omega) (by omega), if_pos (by omega), Nat.sub_self]
      rfl
    · rw [if_neg c] at h
      cases hok : okD n b (u % 10)
      · rw [hok] at h; cases h
      · rw [hok, if_pos rfl] at h
        have hd : 1 ≤ u % 10 ∧ u % 10 ≤ n := by
          unfold okD at hok
          rw [Bool.and_eq_true, Bool.and_eq_true, decide_eq_true_iff, decide_eq_true_iff] at hok
          exact hok.1
        obtain ⟨k, hk⟩ : ∃ k, u % 10 = k + 1 := ⟨u % 10 - 1, by omega⟩
        rw [hk, Nat.add_sub_cancel, show lad n (some d0) k = lacS n d0 k from rfl] at h
        obtain ⟨q1, q2⟩ := m_smX hN hn f (u / 10) _ _ r k u (S + lacS n d0 k) M h (by rw [Nat.pow_succ] at hu; omega) rfl hk (by omega) (by omega) (by omega)
        refine ⟨by omega, ?_⟩
        have d10 := div10 (q := v) (by omega)
        have r10 := rem10 (q := v) (by omega)
        have r11 := rem10 (q := u) (by omega)
        have B : m_crooked_b136 N gm n (S : Int) (v : Int) = some (.inl (((S + lacS n d0 k : Nat) : Int), (u : Int))) := by
          unfold m_crooked_b136
          rw [w32_of (by omega) (by omega), w32_of (by omega) (by omega), if_neg (by omega), d10, h1, r11, r10, h2, hk, crookedBy_eq (by omega) (by omega) h3, obind_some, lacS_comm n (by omega) k (by omega) d0 h3, ← Int.natCast_add]
        rw [loopN]
        dsimp only
        rw [B]
        show loopN (fun q => m_crooked_b136 N gm n q.1 q.2) M (((S + lacS n d0 k : Nat) : Int), (u : Int)) = _
        rw [q2]
        congr 2
        omega
theorem cntD_full : ∀ (f u : Nat), 10 ^ f ≤ u → cntD (f + 1) u = f + 1
  | 0, u, h => by
    rw [cntD, if_neg (by simp at h; omega)]
    rfl
  | f + 1, u, h => by
    have hp : 0 < 10 ^ f := Nat.pow_pos (by omega)
    rw [Nat.pow_succ] at h
    rw [cntD, if_neg (by omega), cntD_full f (u / 10) (by omega)]
theorem m_crooked_no (n' gone is : Nat) (hn : n' < 100) (hg : gone < 100000) (hi : is ≤ 1) (hc : ¬(is = 1 ∧ (3 ≤ n' ∧ n' ≤ 6) ∧ gone = 2 ^ (n' + 1) - 2)) : m_crooked_j88 N (sI gm 900 0 0) a1 n' gone is = some (0, sA (sI (sI gm 900 0 0) 900 0 1) 1 1 (gA gm 1 1 + 1)) := by
  have j : ∀ l2 : Int, m_crooked_j119 N (sI gm 900 0 0) a1 l2 = some (0, sA (sI (sI gm 900 0 0) 900 0 1) 1 1 (gA gm 1 1 + 1)) := by
    intro l2
    unfold m_crooked_j119 m_crooked_j120
    rw [m_may_no1 th0 (by omega), obind_some, if_neg wz0]; rfl
  unfold m_crooked_j88
  rw [w32_of (by omega) (by omega)]
  by_cases q1 : is = 0
  · rw [if_pos (by omega), j]
  · rw [if_neg (by omega), m_within_eq, w32_of (a := 3) (by omega) (by omega), w32_of (by omega) (by omega), w32_of (a := 6) (by omega) (by omega)]
    by_cases q2 : 3 ≤ n' ∧ n' ≤ 6
    · have hs := shl_one (k := n' + 1) (by omega)
      have hp : 2 ^ (n' + 1) ≤ 2 ^ 7 := Nat.pow_le_pow_right (by omega) (by omega)
      have hp2 : 2 ^ 1 ≤ 2 ^ (n' + 1) := Nat.pow_le_pow_right (by omega) (by omega)
      rw [if_pos (by omega), obind_some, if_neg wz1, show (n' : Int) + 1 = ((n' + 1 : Nat) : Int) by omega, hs]
      generalize 2 ^ (n' + 1) = pw at hc hp hp2 ⊢
      rw [w32_of (by omega) (by omega), w32_of (by omega) (by omega), if_pos (by omega), j]
    · rw [if_neg (by omega), obind_some, if_pos w32_z, j]
