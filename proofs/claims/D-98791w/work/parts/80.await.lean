set_option maxRecDepth 100000
/-! PLAIN 21: the best wait; causes by signs -/
variable {N : Nat} {K : Nat → Nat} {t z r : Nat} {g gm g1 gm1 : GS} {a1 a2 a3 a4 a5 a6 v w : Int} {a : Ab} {rd : Rd}
def xmS (q m h w : Nat) : Nat := 16 ^ (8 - w) * mnS q (16 - q) m h w
def awS (q m h : Nat) : Nat → Nat
  | 0 => 0
  | i + 1 => if xmS q m h (i + 1) < xmS q m h (awS q m h i) then i + 1 else awS q m h i
theorem awS_le (q m h : Nat) : ∀ i, awS q m h i ≤ i
  | 0 => Nat.le_refl _
  | i + 1 => by
    have := awS_le q m h i
    rw [awS]
    split <;> omega
theorem cmp_ge {c d : Nat} (hc : c < 9223372036854775808) (hd : d < 9223372036854775808) : (0 ≤ w32 (l_cmp (c : Int) d)) ↔ d ≤ c := by
  rw [l_cmp_nat hc hd]
  by_cases h1 : d < c
  · rw [if_pos h1]; exact ⟨fun _ => by omega, fun _ => by decide⟩
  · rw [if_neg h1]
    by_cases h2 : c = d
    · rw [if_pos h2]; exact ⟨fun _ => by omega, fun _ => by decide⟩
    · rw [if_neg h2]; exact ⟨fun q => absurd q (by decide), fun _ => by omega⟩
theorem s_await (hN : 100000000000000000000 ≤ N) (h : Inv N t K z g gm a) (h394 : 394 ≤ z) (ht : t < 64) (e1 : w32 a1 = a1) (e2 : w32 a2 = a2) : StepOK N t (lc_30 N K z g gm a1 a2 a3 a4 a5 a6) := by
  have hst := h.ok.stops
  have mr := mrd_th h.mr
  by_cases hc : (0 ≤ a1 ∧ a1 ≤ 240) ∧ (0 ≤ a2 ∧ a2 ≤ 240)
  · obtain ⟨m, rfl⟩ := nat_of hc.1.1
    obtain ⟨hh, rfl⟩ := nat_of hc.2.1
    obtain ⟨q, hq⟩ := nat_of hst.1
    have hbd : ∀ w, w ≤ 8 → xmS q m hh w ≤ 16 ^ 8 * 2232 := fun w hw => mnS_bd (by omega) (by omega) (by omega) (by omega) hw
    have hle : ∀ w, w ≤ 8 → mnS q (16 - q) m hh w ≤ 16 ^ 8 * 2232 := fun w hw => mnS_le (by omega) (by omega) (by omega) (by omega) hw
    refine o_await_v (v := awS q m hh 8) (w := awS q m hh 8) (g1 := g) (gm1 := sI gm 900 0 0) ?_ ?_ th0 rfl (h.val .refl .th h394)
    · unfold x_await
      rw [x_waiting_ok e1 e2 hc.1 hc.2, obind_some]
      dsimp only [thT]
      refine loop_up' (N := N) (fun i => ((awS q m hh i : Int), (i : Int) + 1)) 8 _ rfl (fun i hi => ?_) ?_ (by omega)
      · have hb := awS_le q m hh i
        have b1 := hbd (i + 1) (by omega)
        have b2 := hbd (awS q m hh i) (by omega)
        have X1 := x_meanOf_eq hN h hq rfl (w := i + 1) (m := m) (hh := hh) (by omega) (by omega) (by omega)
        have X2 := x_meanOf_eq hN h hq rfl (w := awS q m hh i) (m := m) (hh := hh) (by omega) (by omega) (by omega)
        rw [Int.natCast_add] at X1
        unfold x_await_b11
        dsimp only
        rw [w32_of (by omega) (by omega), w32_of (by omega) (by omega), if_neg (by omega), show ((1 : Nat) : Int) = 1 from rfl] at *
        rw [X1, obind_some, X2, obind_some]
        by_cases c : xmS q m hh (i + 1) < xmS q m hh (awS q m hh i)
        · rw [if_neg (fun q2 => absurd ((cmp_ge (by unfold xmS at b1; omega) (by unfold xmS at b2; omega)).mp q2) (by unfold xmS at c; omega)), awS, if_pos c]
          rfl
        · rw [if_pos ((cmp_ge (by unfold xmS at b1; omega) (by unfold xmS at b2; omega)).mpr (by unfold xmS at c; omega)), awS, if_neg c]
          rfl
      · unfold x_await_b11
        dsimp only
        rw [if_pos (by decide)]; rfl
    · unfold m_await
      rw [m_isMinute_eq e1, if_pos hc.1, obind_some, if_neg wz1, m_isMinute_eq e2, if_pos hc.2, obind_some, if_neg wz1]
      unfold m_await_j25
      rw [m_may_ok th0, obind_some, if_pos wz1]
      refine loop_up' (N := N) (fun i => ((awS q m hh i : Int), (i : Int) + 1)) 8 _ rfl (fun i hi => ?_) ?_ (by omega)
      · have hb := awS_le q m hh i
        have b2 := hbd (awS q m hh i) (by omega)
        have l1 := hle (i + 1) (by omega)
        have e16 : 16 ^ (8 - awS q m hh i) = 16 ^ (8 - (i + 1)) * 16 ^ (i + 1 - awS q m hh i) := by rw [← Nat.pow_add]; congr 1; omega
        have X1 := m_meanOf_eq hN h.ok mr hq rfl (w := i + 1) (m := m) (hh := hh) (by omega) (by omega) (by omega)
        have X2 := m_meanOf_eq hN h.ok mr hq rfl (w := awS q m hh i) (m := m) (hh := hh) (by omega) (by omega) (by omega)
        have P := m_power_eq hN (b := 16) (n := i + 1 - awS q m hh i) (by omega)
        have key : xmS q m hh (i + 1) < xmS q m hh (awS q m hh i) ↔ mnS q (16 - q) m hh (i + 1) < mnS q (16 - q) m hh (awS q m hh i) * 16 ^ (i + 1 - awS q m hh i) := by
          unfold xmS
          rw [e16, Nat.mul_assoc, Nat.mul_lt_mul_left (p16_pos _), Nat.mul_comm (16 ^ (i + 1 - awS q m hh i))]
        have l2 : mnS q (16 - q) m hh (awS q m hh i) * 16 ^ (i + 1 - awS q m hh i) ≤ 16 ^ 8 * 2232 := by
          unfold xmS at b2
          rw [e16, Nat.mul_assoc, Nat.mul_comm (16 ^ (i + 1 - awS q m hh i))] at b2
          have := Nat.le_mul_of_pos_left (mnS q (16 - q) m hh (awS q m hh i) * 16 ^ (i + 1 - awS q m hh i)) (p16_pos (8 - (i + 1)))
          omega
        rw [Int.natCast_add] at X1
        unfold m_await_b40
        dsimp only
        rw [w32_of (by omega) (by omega), w32_of (by omega) (by omega), if_neg (by omega), show ((1 : Nat) : Int) = 1 from rfl] at *
        rw [X1, obind_some, X2, obind_some, show (i : Int) + 1 - (awS q m hh i : Int) = ((i + 1 - awS q m hh i : Nat) : Int) by omega, show (16 : Int) = ((16 : Nat) : Int) from rfl, P, obind_some, ← Int.natCast_mul]
        by_cases c : xmS q m hh (i + 1) < xmS q m hh (awS q m hh i)
        · rw [if_neg (fun q2 => absurd ((cmp_ge (by omega) (by omega)).mp q2) (by have := key.mp c; omega)), awS, if_pos c]
          rfl
        · rw [if_pos ((cmp_ge (by omega) (by omega)).mpr (by have := fun q2 => c (key.mpr q2); omega)), awS, if_neg c]
          rfl
      · unfold m_await_b40
        dsimp only
        rw [if_pos (by decide)]; rfl
  · refine o_await_r1 (w := 0) ?_ ?_ h394 ht h
    · unfold x_await
      rw [x_waiting_no e1 e2 hc, obind_some]
      rfl
    · have j : m_await_j24 N (sI gm 900 0 0) a1 a2 = some (0, sA (sI (sI gm 900 0 0) 900 0 1) 1 1 (gA gm 1 1 + 1)) := by
        unfold m_await_j24 m_await_j25
        rw [m_may_no1 th0 (by omega), obind_some, if_neg wz0]; rfl
      unfold m_await
      rw [m_isMinute_eq e1, obind_some]
      by_cases q1 : 0 ≤ a1 ∧ a1 ≤ 240
      · rw [if_pos q1, if_neg wz1, m_isMinute_eq e2, if_neg (fun q2 => hc ⟨q1, q2⟩), obind_some, if_pos w32_z, j]
      · rw [if_neg q1, if_pos w32_z, j]
