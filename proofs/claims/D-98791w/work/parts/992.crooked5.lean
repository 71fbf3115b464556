set_option maxRecDepth 100000
/-! PLAIN 42: how crooked a row is -/
variable {N : Nat} {K K' : Nat → Nat} {t t' z z' r o : Nat} {g gm g1 gm1 : GS} {a1 a2 a3 a4 a5 a6 v w : Int} {a : Ab} {rd : Rd} {p : Pl}
theorem cntD_le : ∀ f u, cntD f u ≤ f
  | 0, _ => Nat.le_refl _
  | f + 1, u => by
    have := cntD_le f (u / 10)
    rw [cntD]
    split <;> omega
theorem chM_bd : ∀ f u b m, b < 1024 → (chM f u b m).1 ≤ m + f ∧ (chM f u b m).2.1 < 1024
  | 0, u, b, m, h => ⟨by show m ≤ m + 0; omega, h⟩
  | f + 1, u, b, m, h => by
    have hd9 : u % 10 < 10 := Nat.mod_lt _ (by omega)
    have hp : 2 ^ (u % 10) ≤ 2 ^ 9 := Nat.pow_le_pow_right (by omega) (by omega)
    have hor : b ||| 2 ^ (u % 10) < 1024 := Nat.or_lt_two_pow (n := 10) h (by omega)
    rw [chM_succ]
    split
    · exact ⟨by show m ≤ _; omega, h⟩
    · split
      · have := chM_bd f (u / 10) _ (m + 1) hor
        exact ⟨by omega, this.2⟩
      · exact ⟨by show m + 1 ≤ _; omega, hor⟩
theorem chM_cnt : ∀ f u b m, (chM f u b m).2.2 = true → (chM f u b m).1 = m + cntD f u
  | 0, u, b, m, _ => rfl
  | f + 1, u, b, m, h => by
    rw [chM_succ] at h ⊢
    rw [cntD]
    by_cases c : u = 0
    · rw [if_pos c, if_pos c]; rfl
    · rw [if_neg c] at h ⊢
      rw [if_neg c]
      by_cases c2 : 1 ≤ u % 10 ∧ b.testBit (u % 10) = false
      · rw [if_pos c2] at h ⊢
        rw [chM_cnt f _ _ _ h]
        omega
      · rw [if_neg c2] at h
        cases h
theorem s_crooked (hN : 100000000000000000000 ≤ N) (h : Inv N t K z g gm a) (h394 : 394 ≤ z) (ht : t < 64) (e1 : w32 a1 = a1) : StepOK N t (lc_32 N K z g gm a1 a2 a3 a4 a5 a6) := by
  have hrg := w32_rng e1
  by_cases hR : 0 < a1
  · obtain ⟨R, rfl⟩ := nat_of (x := a1) (by omega)
    have hn7 := cntD_le 7 R
    have X : ∀ o, x_crooked_j37 N g (R : Int) ((cntD 7 R : Nat) : Int) 0 0 (-1) = o → x_crooked N g R = o := fun o q => by
      unfold x_crooked
      rw [x_digits hN (by omega), obind_some]
      exact q
    have Xno : ¬(3 ≤ cntD 7 R ∧ cntD 7 R ≤ 6) → x_crooked N g R = some (.inl (1, sA g 12 1 (gA g 12 1 + 1))) := fun q => X _ (by
      unfold x_crooked_j37
      rw [x_within_no (by rw [w32_of (by omega) (by omega), w32_of (by omega) (by omega), w32_of (by omega) (by omega)]; omega), obind_some]
      rfl)
    by_cases hb : R ≤ 999999
    · have hcb := chM_bd 7 R 0 0 (by omega)
      have L := m_chM (gm := sI gm 900 0 0) hN (R : Int) 7 R 0 0 (by omega) (by omega) (by omega) (by omega) N (by omega)
      rw [show ((0 : Nat) : Int) = 0 from rfl] at L
      have Y : ∀ o, m_crooked_j88 N (sI gm 900 0 0) R ((chM 7 R 0 0).1 : Int) ((chM 7 R 0 0).2.1 : Int) (bI (chM 7 R 0 0).2.2) = o → m_crooked N gm R = o := fun o q => by
        unfold m_crooked m_crooked_j25
        rw [w32_of (a := (R : Int)) (by omega) (by omega), if_neg (by omega), w32_of (by omega) (by omega), if_neg (by omega), L, obind_some]
        exact q
      by_cases hv : (3 ≤ cntD 7 R ∧ cntD 7 R ≤ 6) ∧ ∃ q, crX (cntD 7 R) 7 R 0 none 0 = some q
      · obtain ⟨hn, q, hq⟩ := hv
        obtain ⟨b', k1, k2, k3⟩ := crX_chM hn 7 R 0 0 0 none (Nat.pow_pos (by omega)) ⟨q, hq⟩
        have hp0 : popS 0 = 0 := by decide
        have hfull := pop_full (cntD 7 R) (by omega) b' k2 (by rw [k3, hp0]; omega)
        rw [Nat.mul_zero, Nat.zero_add] at k1
        have hx := x_crX (g := g) hN hn 7 R 0 0 none (by omega) (by omega) (Nat.pow_pos (by omega)) (by omega) (fun x hx => by cases hx) N (by omega)
        rw [hq] at hx
        have hq2 := hq
        rw [crX_succ, if_neg (by omega)] at hq2
        cases hok : okD (cntD 7 R) 0 (R % 10)
        · rw [hok] at hq2; cases hq2
        · rw [hok, if_pos rfl] at hq2
          have hd : 1 ≤ R % 10 ∧ R % 10 ≤ cntD 7 R := by
            unfold okD at hok
            rw [Bool.and_eq_true, Bool.and_eq_true, decide_eq_true_iff, decide_eq_true_iff] at hok
            exact hok.1
          obtain ⟨s1, s2⟩ := m_smX (gm := sI gm 900 0 0) hN hn 6 (R / 10) _ _ q (R % 10 - 1) R 0 N hq2 (by omega) rfl (by omega) (by omega) (by omega) (by omega)
          refine o_crooked_v (v := (q : Int)) (w := (q : Int)) (g1 := g) (gm1 := sI gm 900 0 0) (X _ ?_) (Y _ ?_) th0 rfl (h.val .refl .th h394)
          · unfold x_crooked_j37
            rw [x_within_ok (by rw [w32_of (by omega) (by omega), w32_of (by omega) (by omega)]; omega) (by rw [w32_of (by omega) (by omega), w32_of (by omega) (by omega)]; omega), obind_some]
            exact hx
          · rw [k1]
            unfold m_crooked_j88 bI
            dsimp only
            have hs := shl_one (k := cntD 7 R + 1) (by omega)
            have hp : 2 ^ (cntD 7 R + 1) ≤ 2 ^ 7 := Nat.pow_le_pow_right (by omega) (by omega)
            have hp2 : 2 ^ 1 ≤ 2 ^ (cntD 7 R + 1) := Nat.pow_le_pow_right (by omega) (by omega)
            have hpw : 2 ^ (cntD 7 R + 1) = 2 * 2 ^ cntD 7 R := by rw [Nat.pow_succ, Nat.mul_comm]
            rw [show (if true = true then (1 : Int) else 0) = 1 from rfl, if_neg wz1, m_within_eq, w32_of (a := 3) (by omega) (by omega), w32_of (by omega) (by omega), w32_of (a := 6) (by omega) (by omega), if_pos (by omega), obind_some, if_neg wz1, show ((cntD 7 R : Nat) : Int) + 1 = ((cntD 7 R + 1 : Nat) : Int) by omega, hs, hfull]
            rw [w32_of (by omega) (by omega), w32_of (by omega) (by omega), if_neg (by omega)]
            unfold m_crooked_j120
            rw [m_may_ok th0, obind_some, if_pos wz1]
            have e0 : 0 + (q - (0 + lad (cntD 7 R) none (R % 10 - 1))) = q := by show 0 + (q - (0 + 0)) = q; omega
            rw [e0] at s2
            exact s2
      · refine o_crooked_r1 (w := 0) ?_ (Y _ ?_) h394 ht h
        · by_cases hn : 3 ≤ cntD 7 R ∧ cntD 7 R ≤ 6
          · have hx := x_crX (g := g) hN hn 7 R 0 0 none (by omega) (by omega) (Nat.pow_pos (by omega)) (by omega) (fun x hx => by cases hx) N (by omega)
            have hq : crX (cntD 7 R) 7 R 0 none 0 = none := by
              cases hq : crX (cntD 7 R) 7 R 0 none 0 with
              | none => rfl
              | some q => exact absurd ⟨hn, q, hq⟩ hv
            rw [hq] at hx
            refine X _ ?_
            unfold x_crooked_j37
            rw [x_within_ok (by rw [w32_of (by omega) (by omega), w32_of (by omega) (by omega)]; omega) (by rw [w32_of (by omega) (by omega), w32_of (by omega) (by omega)]; omega), obind_some]
            exact hx
          · exact Xno hn
        · have hbi : bI (chM 7 R 0 0).2.2 = (((if (chM 7 R 0 0).2.2 then 1 else 0 : Nat)) : Int) := by unfold bI; split <;> rfl
          rw [hbi]
          refine m_crooked_no _ _ _ (by omega) (by omega) (by split <;> omega) (fun q => hv ?_)
          obtain ⟨q1, q2, q3⟩ := q
          have hfl : (chM 7 R 0 0).2.2 = true := by
            cases hq : (chM 7 R 0 0).2.2
            · rw [hq] at q1; exact absurd q1 (by decide)
            · rfl
          have hcn := chM_cnt 7 R 0 0 hfl
          rw [hcn, Nat.zero_add] at q2 q3
          have hpp : 0 < 2 ^ (cntD 7 R + 1) := Nat.pow_pos (by omega)
          refine ⟨q2, chM_crX q2 7 R 0 0 0 none (Nat.pow_pos (by omega)) hfl ?_⟩
          show (chM 7 R 0 0).2.1 < _
          generalize 2 ^ (cntD 7 R + 1) = pw at q3 hpp ⊢
          omega
    · refine o_crooked_r1 (w := 0) (Xno (by rw [cntD_full 6 R (by omega)]; omega)) ?_ h394 ht h
      unfold m_crooked m_crooked_j24 m_crooked_j25
      rw [w32_of (a := (R : Int)) (by omega) (by omega), if_neg (by omega), w32_of (by omega) (by omega), if_pos (by omega)]
      have L : loopN (fun s => m_crooked_b30 N (sI gm 900 0 0) (R : Int) s.1 s.2.1 s.2.2.1 s.2.2.2) N (0, 0, 0, (R : Int)) = some (0, 0, 0) := loop_up' (N := N) (fun _ => (0, 0, 0, (R : Int))) 0 _ rfl (fun i hi => by omega) (by
        unfold m_crooked_b30
        dsimp only
        rw [w32_of (a := (R : Int)) (by omega) (by omega), if_neg (by omega), if_pos w32_z]) (by omega)
      rw [L, obind_some]
      exact m_crooked_no 0 0 0 (by omega) (by omega) (by omega) (by omega)
  · refine o_crooked_r1 (w := 0) ?_ ?_ h394 ht h
    · have L : loopN (fun s => x_crooked_b13 N g a1 0 0 (-1) s.1 s.2) N (0, a1) = some 0 := loop_up' (N := N) (fun _ => (0, a1)) 0 _ rfl (fun i hi => by omega) (by
        unfold x_crooked_b13
        dsimp only
        rw [e1, if_pos (by omega)]) (by omega)
      unfold x_crooked
      rw [L, obind_some]
      unfold x_crooked_j37
      rw [x_within_no (by decide), obind_some]
      rfl
    · unfold m_crooked m_crooked_j24 m_crooked_j25
      rw [e1, if_pos (by omega)]
      have L : loopN (fun s => m_crooked_b30 N (sI gm 900 0 0) a1 s.1 s.2.1 s.2.2.1 s.2.2.2) N (0, 0, 0, a1) = some (0, 0, 0) := loop_up' (N := N) (fun _ => (0, 0, 0, a1)) 0 _ rfl (fun i hi => by omega) (by
        unfold m_crooked_b30
        dsimp only
        rw [e1, if_pos (by omega)]) (by omega)
      rw [L, obind_some]
      exact m_crooked_no 0 0 0 (by omega) (by omega) (by omega) (by omega)
