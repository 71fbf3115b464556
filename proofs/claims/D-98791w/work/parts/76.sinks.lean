set_option maxRecDepth 100000
/-! PLAIN 17: what sinks, what is pushed -/
variable {N : Nat} {K : Nat → Nat} {t z r : Nat} {g gm g1 gm1 : GS} {a1 a2 a3 a4 a5 a6 v w : Int} {a : Ab} {rd : Rd}
theorem x_jack_ok {y m : Int} (e1 : w32 y = y) (e2 : w32 m = m) (h1 : 0 ≤ y ∧ y ≤ 59) (h2 : 0 ≤ m ∧ m ≤ 240) : x_jack g y m = some (.inr g) := by
  unfold x_jack
  rw [x_within_ok (by rw [e1, w32_z]; omega) (by rw [e1, w32_of (by omega) (by omega)]; omega), obind_some]
  dsimp only [thT]
  rw [x_within_ok (by rw [e2, w32_z]; omega) (by rw [e2, w32_of (by omega) (by omega)]; omega), obind_some]
theorem x_jack_no {y m : Int} (e1 : w32 y = y) (e2 : w32 m = m) (h : ¬((0 ≤ y ∧ y ≤ 59) ∧ (0 ≤ m ∧ m ≤ 240))) : x_jack g y m = some (.inl (1, sA g 12 1 (gA g 12 1 + 1))) := by
  unfold x_jack
  by_cases h1 : 0 ≤ y ∧ y ≤ 59
  · rw [x_within_ok (by rw [e1, w32_z]; omega) (by rw [e1, w32_of (by omega) (by omega)]; omega), obind_some]
    dsimp only [thT]
    rw [x_within_no (by rw [e2, w32_z, w32_of (by omega) (by omega)]; exact fun q => h ⟨h1, q⟩), obind_some]
  · rw [x_within_no (by rw [e1, w32_z, w32_of (by omega) (by omega)]; exact h1), obind_some]
    rfl
theorem m_isYard_eq {y : Int} (e : w32 y = y) : m_isYard y = some (if 0 ≤ y ∧ y ≤ 59 then 1 else 0) := by
  unfold m_isYard
  rw [e]
  by_cases h1 : y < 0
  · rw [if_pos h1, if_neg (by omega)]
  · rw [if_neg h1, w32_of (by omega) (by omega)]
    by_cases h2 : 60 ≤ y
    · rw [if_pos h2, if_neg (by omega)]
    · rw [if_neg h2, if_pos (by omega)]
theorem m_isMinute_eq {y : Int} (e : w32 y = y) : m_isMinute y = some (if 0 ≤ y ∧ y ≤ 240 then 1 else 0) := by
  unfold m_isMinute
  rw [e]
  by_cases h1 : y < 0
  · rw [if_pos h1, if_neg (by omega)]
  · rw [if_neg h1, w32_of (by omega) (by omega)]
    by_cases h2 : 240 < y
    · rw [if_pos h2, if_neg (by omega)]
    · rw [if_neg h2, if_pos (by omega)]
theorem pow_le6 {n : Nat} (h : n ≤ 6) : 2 ^ n ≤ 64 := Nat.pow_le_pow_right (n := 2) (by omega) h
theorem shl1 {n : Nat} (h : n ≤ 6) : i_shl 1 n = ((2 ^ n : Nat) : Int) := shl_one (by omega)
theorem w32_pow {n : Nat} (h : n ≤ 6) : w32 ((2 ^ n : Nat) : Int) = ((2 ^ n : Nat) : Int) := by
  have := pow_le6 h
  generalize 2 ^ n = q at this ⊢
  exact w32_of (by omega) (by omega)
theorem w32_pow1 {n : Nat} (h : n ≤ 6) : w32 (((2 ^ n : Nat) : Int) - 1) = ((2 ^ n : Nat) : Int) - 1 := by
  have := pow_le6 h
  generalize 2 ^ n = q at this ⊢
  exact w32_of (by omega) (by omega)
theorem s_sinks (hN : 100000000000000000000 ≤ N) (h : Inv N t K z g gm a) (h394 : 394 ≤ z) (ht : t < 64) (e1 : w32 a1 = a1) (e2 : w32 a2 = a2) (e3 : w32 a3 = a3) : StepOK N t (lc_23 N K z g gm a1 a2 a3 a4 a5 a6) := by
  have hB := h.ok.B
  have hp := pow_le6 hB
  have mr := mrd_th h.mr
  by_cases hc : (0 ≤ a1 ∧ a1 ≤ 59) ∧ (0 ≤ a3 ∧ a3 ≤ 240)
  · by_cases hd : 0 ≤ a2 ∧ a2 ≤ ((2 ^ a.rd.B : Nat) : Int) - 1
    · obtain ⟨y, rfl⟩ := nat_of hc.1.1
      obtain ⟨m, rfl⟩ := nat_of hc.2.1
      obtain ⟨w, rfl⟩ := nat_of hd.1
      refine o_sinks_v (v := m * eachS a.rd y w) (w := m * eachS a.rd y w) (g1 := g) (gm1 := sI gm 900 0 0) ?_ ?_ th0 rfl (h.val .refl .th h394)
      · unfold x_sinks
        rw [x_jack_ok e1 e3 hc.1 hc.2, obind_some]
        dsimp only [thT]
        rw [rdR_of h.r12 h.kr, obind_some, h.xr.B, shl1 hB, x_within_ok (by rw [e2, w32_z]; omega) (by rw [e2, w32_pow1 hB]; omega), obind_some]
        dsimp only
        rw [rdR_of h.r12 h.kr, obind_some, xRoad_sinks_eq hN h.ok h.xr (by omega) (by omega) (by omega), obind_some]
      · unfold m_sinks
        rw [m_isYard_eq e1, if_pos hc.1, obind_some, if_neg wz1, e2, if_neg (by omega), mr.B, shl1 hB, w32_pow hB, if_neg (by omega), m_isMinute_eq e3, if_pos hc.2, obind_some, if_neg wz1]
        unfold m_sinks_j39
        rw [m_may_ok th0, obind_some, if_pos wz1, m_sinkOf_eq hN h.ok mr (by omega) (by omega) (by omega), obind_some]
    · refine o_sinks_r1 (w := 0) ?_ ?_ h394 ht h
      · unfold x_sinks
        rw [x_jack_ok e1 e3 hc.1 hc.2, obind_some]
        dsimp only [thT]
        rw [rdR_of h.r12 h.kr, obind_some, h.xr.B, shl1 hB, x_within_no (by rw [e2, w32_z, w32_pow1 hB]; exact hd), obind_some]
      · have j : m_sinks_j38 N (sI gm 900 0 0) a1 a2 a3 = some (0, sA (sI (sI gm 900 0 0) 900 0 1) 1 1 (gA gm 1 1 + 1)) := by
          unfold m_sinks_j38 m_sinks_j39
          rw [m_may_no1 th0 (by omega), obind_some, if_neg wz0]; rfl
        unfold m_sinks
        rw [m_isYard_eq e1, if_pos hc.1, obind_some, if_neg wz1, e2]
        by_cases q : a2 < 0
        · rw [if_pos q, j]
        · rw [if_neg q, mr.B, shl1 hB, w32_pow hB, if_pos (by omega), j]
  · refine o_sinks_r1 (w := 0) ?_ ?_ h394 ht h
    · unfold x_sinks
      rw [x_jack_no e1 e3 hc, obind_some]
      rfl
    · have j : m_sinks_j38 N (sI gm 900 0 0) a1 a2 a3 = some (0, sA (sI (sI gm 900 0 0) 900 0 1) 1 1 (gA gm 1 1 + 1)) := by
        unfold m_sinks_j38 m_sinks_j39
        rw [m_may_no1 th0 (by omega), obind_some, if_neg wz0]; rfl
      unfold m_sinks
      rw [m_isYard_eq e1, obind_some]
      by_cases q : 0 ≤ a1 ∧ a1 ≤ 59
      · rw [if_pos q, if_neg wz1]
        split
        · exact j
        · split
          · exact j
          · rw [m_isMinute_eq e3, if_neg (fun q2 => hc ⟨q, q2⟩), obind_some, if_pos w32_z, j]
      · rw [if_neg q, if_pos w32_z, j]
def unS (rd : Rd) (y m : Nat) (dp : Int) : Nat → Int
  | 0 => -1
  | i + 1 => if m * eachS rd y i ≤ dp then (if unS rd y m dp i = -1 then (i : Int) else if popS (unS rd y m dp i).toNat ≤ popS i then unS rd y m dp i else i) else unS rd y m dp i
theorem unS_bd (rd : Rd) (y m : Nat) (dp : Int) : ∀ i, -1 ≤ unS rd y m dp i ∧ unS rd y m dp i < i
  | 0 => by simp [unS]
  | i + 1 => by
    have := unS_bd rd y m dp i
    rw [unS]
    split
    · split
      · omega
      · split <;> omega
    · omega
theorem mul_bd {m : Nat} {e : Int} (hm : m ≤ 240) (h1 : 0 ≤ e) (h2 : e ≤ 99) : 0 ≤ (m : Int) * e ∧ (m : Int) * e ≤ 23760 := by
  constructor
  · exact Int.mul_nonneg (by omega) h1
  · have := Int.mul_le_mul (a := (m : Int)) (b := e) (c := 240) (d := 99) (by omega) h2 h1 (by omega)
    omega
theorem x_under_loop (hN : 100000000000000000000 ≤ N) (h : Inv N t K z g gm a) {y m : Nat} (hy : y < 60) (hm : m ≤ 240) {dp : Int} (hd : 0 ≤ dp ∧ dp ≤ 9999) : loopN (fun s => x_under_b21 N K g y m dp s.1 s.2) N (-1, 0) = some (.inr (unS a.rd y m dp (2 ^ a.rd.B), g)) := by
  have hB := h.ok.B
  have hp := pow_le6 hB
  refine loop_up' (fun i => (unS a.rd y m dp i, (i : Int))) (2 ^ a.rd.B) _ rfl (fun i hi => ?_) ?_ (by omega)
  · have hu := unS_bd a.rd y m dp i
    have hs := xRoad_sinks_eq hN h.ok h.xr (y := y) (w := i) (m := m) hy (by omega) hm
    have he := eachS_bd h.ok hy i
    have hmb := mul_bd hm he.1 he.2
    have hpi := popS_bd i
    have hpu := popS_bd (unS a.rd y m dp i).toNat
    have hib := i_bits_eq (w := i) (by omega)
    unfold x_under_b21
    dsimp only
    rw [rdR_of h.r12 h.kr, obind_some, h.xr.B, shl1 hB, w32_pow hB, w32_of (by omega) (by omega), if_neg (by omega), obind_some, hs, obind_some, unS, w32_of (by omega) (by omega), w32_of (by omega) (by omega)]
    by_cases c1 : (m : Int) * eachS a.rd y i ≤ dp
    · rw [if_pos c1, if_pos c1, w32_of (by omega) (by omega), w32_m1]
      by_cases c2 : unS a.rd y m dp i = -1
      · rw [if_pos c2, if_pos c2]; rfl
      · have hib2 := i_bits_eq (w := (unS a.rd y m dp i).toNat) (by omega)
        rw [Int.toNat_of_nonneg (by omega)] at hib2
        rw [if_neg c2, if_neg c2, hib, hib2, w32_of (by omega) (by omega), w32_of (by omega) (by omega)]
        by_cases c3 : popS (unS a.rd y m dp i).toNat ≤ popS i
        · rw [if_pos c3, if_pos c3]; rfl
        · rw [if_neg c3, if_neg c3]; rfl
    · rw [if_neg c1, if_neg c1]; rfl
  · unfold x_under_b21
    dsimp only
    rw [rdR_of h.r12 h.kr, obind_some, h.xr.B, shl1 hB, w32_pow hB, if_pos (by omega)]; rfl
theorem m_under_loop (hN : 100000000000000000000 ≤ N) (h : Inv N t K z g gm a) {y m : Nat} (hy : y < 60) (hm : m ≤ 240) {dp : Int} (hd : 0 ≤ dp ∧ dp ≤ 9999) : loopN (fun s => m_under_b52 N (sI gm 900 0 0) y m dp s.1 s.2) N (-1, 0) = some (unS a.rd y m dp (2 ^ a.rd.B), sI gm 900 0 0) := by
  have hB := h.ok.B
  have hp := pow_le6 hB
  have mr := mrd_th h.mr
  refine loop_up' (fun i => (unS a.rd y m dp i, (i : Int))) (2 ^ a.rd.B) _ rfl (fun i hi => ?_) ?_ (by omega)
  · have hu := unS_bd a.rd y m dp i
    have hs := m_sinkOf_eq hN h.ok mr (y := y) (w := i) (m := m) hy (by omega) hm
    have he := eachS_bd h.ok hy i
    have hmb := mul_bd hm he.1 he.2
    have hpi := popS_bd i
    have hpu := popS_bd (unS a.rd y m dp i).toNat
    unfold m_under_b52
    dsimp only
    rw [mr.B, shl1 hB, w32_pow hB, w32_of (by omega) (by omega), if_neg (by omega), hs, obind_some, unS, w32_of (by omega) (by omega), w32_of (by omega) (by omega)]
    by_cases c1 : (m : Int) * eachS a.rd y i ≤ dp
    · rw [if_neg (by omega), if_pos c1, w32_of (by omega) (by omega), w32_m1]
      by_cases c2 : unS a.rd y m dp i = -1
      · rw [if_pos c2, if_pos c2]; rfl
      · obtain ⟨u, hu2⟩ := nat_of (x := unS a.rd y m dp i) (by omega)
        rw [if_neg c2, if_neg c2, hu2, m_onesOf_eq hN (by omega), obind_some, m_onesOf_eq hN (by omega), obind_some, show ((u : Int)).toNat = u from rfl]
        rw [hu2, show ((u : Int)).toNat = u from rfl] at hpu
        rw [w32_of (by omega) (by omega), w32_of (by omega) (by omega)]
        by_cases c3 : popS u ≤ popS i
        · rw [if_pos c3, if_pos c3]; rfl
        · rw [if_neg c3, if_neg c3]; rfl
    · rw [if_pos (by omega), if_neg c1]; rfl
  · unfold m_under_b52
    dsimp only
    rw [mr.B, shl1 hB, w32_pow hB, if_pos (by omega)]; rfl
theorem s_under (hN : 100000000000000000000 ≤ N) (h : Inv N t K z g gm a) (h394 : 394 ≤ z) (ht : t < 64) (e1 : w32 a1 = a1) (e2 : w32 a2 = a2) (e3 : w32 a3 = a3) : StepOK N t (lc_24 N K z g gm a1 a2 a3 a4 a5 a6) := by
  by_cases hc : (0 ≤ a1 ∧ a1 ≤ 59) ∧ (0 ≤ a2 ∧ a2 ≤ 240)
  · by_cases hd : 0 ≤ a3 ∧ a3 ≤ 9999
    · obtain ⟨y, rfl⟩ := nat_of hc.1.1
      obtain ⟨m, rfl⟩ := nat_of hc.2.1
      refine o_under_v (v := unS a.rd y m a3 (2 ^ a.rd.B)) (w := unS a.rd y m a3 (2 ^ a.rd.B)) (g1 := g) (gm1 := sI gm 900 0 0) ?_ ?_ th0 rfl (h.val .refl .th h394)
      · unfold x_under
        rw [x_jack_ok e1 e2 hc.1 hc.2, obind_some]
        dsimp only [thT]
        rw [x_within_ok (by rw [e3, w32_z]; omega) (by rw [e3, w32_of (by omega) (by omega)]; omega), obind_some]
        exact x_under_loop hN h (by omega) (by omega) hd
      · unfold m_under
        rw [m_isYard_eq e1, if_pos hc.1, obind_some, if_neg wz1, m_isMinute_eq e2, if_pos hc.2, obind_some, if_neg wz1, m_within_eq, e3, w32_z, w32_of (by omega) (by omega), if_pos hd, obind_some, if_neg wz1]
        unfold m_under_j36
        rw [m_may_ok th0, obind_some, if_pos wz1]
        exact m_under_loop hN h (by omega) (by omega) hd
    · refine o_under_r1 (w := 0) ?_ ?_ h394 ht h
      · unfold x_under
        rw [x_jack_ok e1 e2 hc.1 hc.2, obind_some]
        dsimp only [thT]
        rw [x_within_no (by rw [e3, w32_z, w32_of (by omega) (by omega)]; exact hd), obind_some]
      · unfold m_under
        rw [m_isYard_eq e1, if_pos hc.1, obind_some, if_neg wz1, m_isMinute_eq e2, if_pos hc.2, obind_some, if_neg wz1, m_within_eq, e3, w32_z, w32_of (by omega) (by omega), if_neg hd, obind_some, if_pos w32_z]
        unfold m_under_j35 m_under_j36
        rw [m_may_no1 th0 (by omega), obind_some, if_neg wz0]; rfl
  · refine o_under_r1 (w := 0) ?_ ?_ h394 ht h
    · unfold x_under
      rw [x_jack_no e1 e2 hc, obind_some]
      rfl
    · have j : m_under_j35 N (sI gm 900 0 0) a1 a2 a3 = some (0, sA (sI (sI gm 900 0 0) 900 0 1) 1 1 (gA gm 1 1 + 1)) := by
        unfold m_under_j35 m_under_j36
        rw [m_may_no1 th0 (by omega), obind_some, if_neg wz0]; rfl
      unfold m_under
      rw [m_isYard_eq e1, obind_some]
      by_cases q : 0 ≤ a1 ∧ a1 ≤ 59
      · rw [if_pos q, if_neg wz1, m_isMinute_eq e2, if_neg (fun q2 => hc ⟨q, q2⟩), obind_some, if_pos w32_z, j]
      · rw [if_neg q, if_pos w32_z, j]
