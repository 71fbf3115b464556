set_option maxRecDepth 100000
/-! PLAIN 18: push; long numbers, powers, parts -/
variable {N : Nat} {K : Nat → Nat} {t z r : Nat} {g gm g1 gm1 : GS} {a1 a2 a3 a4 a5 a6 v w : Int} {a : Ab} {rd : Rd}
def alS (rd : Rd) (y m : Nat) (c : Int) (i : Nat) : Int := c * (if i < y then ((y - i : Nat) : Int) else ((i - y : Nat) : Int)) + m * eachS rd i 0
theorem alS_bd (ok : RdOK rd) {y m i : Nat} (hy : y < 60) (hi : i < 60) (hm : m ≤ 240) {c : Int} (hc : 0 ≤ c ∧ c ≤ 99) : 0 ≤ alS rd y m c i ∧ alS rd y m c i ≤ 100000 := by
  have he := eachS_bd ok hi 0
  have h1 := mul_bd hm he.1 he.2
  obtain ⟨c, rfl⟩ := nat_of hc.1
  have h2 := mul_bd (m := c) (e := if i < y then ((y - i : Nat) : Int) else ((i - y : Nat) : Int)) (by omega) (by split <;> omega) (by split <;> omega)
  unfold alS
  omega
def puS (rd : Rd) (y m : Nat) (c : Int) : Nat → Int × Int
  | 0 => (0, alS rd y m c 0)
  | i + 1 => if alS rd y m c (i + 1) < (puS rd y m c i).2 then (((i + 1 : Nat) : Int), alS rd y m c (i + 1)) else puS rd y m c i
theorem puS_bd (ok : RdOK rd) {y m : Nat} (hy : y < 60) (hm : m ≤ 240) {c : Int} (hc : 0 ≤ c ∧ c ≤ 99) : ∀ i, i < 60 → (0 ≤ (puS rd y m c i).1 ∧ (puS rd y m c i).1 ≤ i) ∧ 0 ≤ (puS rd y m c i).2 ∧ (puS rd y m c i).2 ≤ 100000
  | 0, h => by
    have := alS_bd ok hy (i := 0) (by omega) hm hc
    exact ⟨⟨Int.le_refl _, Int.le_refl _⟩, this⟩
  | i + 1, h => by
    have h1 := puS_bd ok hy hm hc i (by omega)
    have h2 := alS_bd ok hy h hm hc
    rw [puS]
    split
    · exact ⟨⟨by dsimp only; omega, by dsimp only; omega⟩, h2⟩
    · omega
theorem x_push_loop (hN : 100000000000000000000 ≤ N) (h : Inv N t K z g gm a) {y m : Nat} (hy : y < 60) (hm : m ≤ 240) {c : Int} (hc : 0 ≤ c ∧ c ≤ 99) (l4 : Int) : loopN (fun s => x_push_b31 N K g y c m l4 s.1 s.2.1 s.2.2) N (0, (-1), 0) = some (puS a.rd y m c 59) := by
  have hs : ∀ i : Nat, i < 60 → xRoad_sinks N a.r g i 0 m = some (m * eachS a.rd i 0) := fun i hi => xRoad_sinks_eq hN h.ok h.xr (w := 0) hi (by omega) hm
  have hal : ∀ i : Nat, i < 60 → c * iabs ((i : Int) - y) + m * eachS a.rd i 0 = alS a.rd y m c i := fun i hi => by
    rw [iabs_of (by omega) (by omega)]
    unfold alS
    by_cases e : i < y
    · rw [if_neg (by omega), if_pos e, show -((i : Int) - y) = ((y - i : Nat) : Int) by omega]
    · rw [if_pos (by omega), if_neg e, show ((i : Int) - y) = ((i - y : Nat) : Int) by omega]
  refine loop_up' (fun i => if i = 0 then (0, (-1), 0) else ((puS a.rd y m c (i - 1)).1, (puS a.rd y m c (i - 1)).2, (i : Int))) 60 _ rfl (fun i hi => ?_) ?_ (by omega)
  · have hab := alS_bd h.ok hy hi hm hc
    by_cases e : i = 0
    · subst e
      rw [if_pos rfl, if_neg (by omega)]
      dsimp only
      unfold x_push_b31
      have q := hal 0 (by omega)
      have q0 := hs 0 (by omega)
      rw [show ((0 : Nat) : Int) = 0 from rfl] at q q0
      rw [if_neg (by decide), rdR_of h.r12 h.kr, obind_some, q0, obind_some, q, if_pos (by decide)]
      rfl
    · obtain ⟨j, rfl⟩ : ∃ j, i = j + 1 := ⟨i - 1, by omega⟩
      have hp := puS_bd h.ok hy hm hc j (by omega)
      rw [if_neg (by omega), if_neg (by omega)]
      rw [show j + 1 - 1 = j by omega, show j + 1 + 1 - 1 = j + 1 by omega]
      dsimp only
      unfold x_push_b31 x_push_j77
      rw [w32_of (by omega) (by omega), w32_of (by omega) (by omega), if_neg (by omega), rdR_of h.r12 h.kr, obind_some, hs _ hi, obind_some, hal _ hi, w32_of (by omega) (by omega), w32_m1, if_neg (by omega), w32_of (by omega) (by omega)]
      rw [puS]
      split
      · rfl
      · rfl
  · rw [if_neg (by omega)]
    unfold x_push_b31
    dsimp only
    rw [if_pos (by decide)]
theorem m_push_loop (hN : 100000000000000000000 ≤ N) (h : Inv N t K z g gm a) {y m : Nat} (hy : y < 60) (hm : m ≤ 240) {c : Int} (hc : 0 ≤ c ∧ c ≤ 99) (l4 : Int) : loopN (fun s => m_push_b64 N (sI gm 900 0 0) y c m l4 s.1 s.2.1 s.2.2) N ((-1), 0, 0) = some (puS a.rd y m c 59) := by
  have hs : ∀ i : Nat, i < 60 → m_sinkOf N (sI gm 900 0 0) i 0 m = some (m * eachS a.rd i 0) := fun i hi => m_sinkOf_eq hN h.ok (mrd_th h.mr) (w := 0) hi (by omega) hm
  have key : ∀ (i : Nat) (best least : Int), i < 60 → m_push_b64 N (sI gm 900 0 0) y c m l4 best least i = (if w32 best = w32 (-1) then some (.inl (((i : Int), alS a.rd y m c i, (i : Int) + 1))) else if alS a.rd y m c i < w32 least then some (.inl (((i : Int), alS a.rd y m c i, (i : Int) + 1))) else some (.inl ((best, least, (i : Int) + 1)))) := by
    intro i best least hi
    have hab := alS_bd h.ok hy hi hm hc
    have hal : alS a.rd y m c i = c * (if i < y then ((y - i : Nat) : Int) else ((i - y : Nat) : Int)) + m * eachS a.rd i 0 := rfl
    unfold m_push_b64 m_push_j89 m_push_j117
    rw [w32_of (by omega) (by omega), w32_of (by omega) (by omega), if_neg (by omega), w32_of (by omega) (by omega), hs i hi]
    by_cases e : i < y
    · rw [if_neg (by omega), obind_some, show (y : Int) - i = ((y - i : Nat) : Int) by omega]
      rw [if_pos e] at hal
      rw [← hal, w32_of (a := alS a.rd y m c i) (by omega) (by omega)]
    · rw [if_pos (by omega), obind_some, show (i : Int) - y = ((i - y : Nat) : Int) by omega]
      rw [if_neg e] at hal
      rw [← hal, w32_of (a := alS a.rd y m c i) (by omega) (by omega)]
  refine loop_up' (fun i => if i = 0 then ((-1), 0, 0) else ((puS a.rd y m c (i - 1)).1, (puS a.rd y m c (i - 1)).2, (i : Int))) 60 _ rfl (fun i hi => ?_) ?_ (by omega)
  · by_cases e : i = 0
    · subst e
      rw [if_pos rfl, if_neg (by omega)]
      dsimp only
      have := key 0 (-1) 0 (by omega)
      rw [if_pos rfl] at this
      exact this
    · obtain ⟨j, rfl⟩ : ∃ j, i = j + 1 := ⟨i - 1, by omega⟩
      have hp := puS_bd h.ok hy hm hc j (by omega)
      rw [if_neg (by omega), if_neg (by omega)]
      rw [show j + 1 - 1 = j by omega, show j + 1 + 1 - 1 = j + 1 by omega]
      dsimp only
      rw [key _ _ _ hi, w32_of (by omega) (by omega), w32_m1, if_neg (by omega), w32_of (by omega) (by omega), puS]
      split
      · rfl
      · rfl
  · rw [if_neg (by omega)]
    unfold m_push_b64
    dsimp only
    rw [if_pos (by decide)]
theorem s_push (hN : 100000000000000000000 ≤ N) (h : Inv N t K z g gm a) (h394 : 394 ≤ z) (ht : t < 64) (e1 : w32 a1 = a1) (e2 : w32 a2 = a2) (e3 : w32 a3 = a3) (e4 : w32 a4 = a4) : StepOK N t (lc_25 N K z g gm a1 a2 a3 a4 a5 a6) := by
  by_cases hc : ((0 ≤ a1 ∧ a1 ≤ 59) ∧ (0 ≤ a3 ∧ a3 ≤ 240)) ∧ (0 ≤ a2 ∧ a2 ≤ 99) ∧ (0 ≤ a4 ∧ a4 ≤ 1)
  · obtain ⟨⟨h1, h3⟩, h2, h4⟩ := hc
    obtain ⟨y, rfl⟩ := nat_of h1.1
    obtain ⟨m, rfl⟩ := nat_of h3.1
    refine o_push_v (v := if a4 = 0 then (puS a.rd y m a2 59).1 else (puS a.rd y m a2 59).2) (w := if a4 = 0 then (puS a.rd y m a2 59).1 else (puS a.rd y m a2 59).2) (g1 := g) (gm1 := sI gm 900 0 0) ?_ ?_ th0 rfl (h.val .refl .th h394)
    · unfold x_push
      rw [x_jack_ok e1 e3 h1 h3, obind_some]
      dsimp only [thT]
      rw [x_within_ok (by rw [e2, w32_z]; omega) (by rw [e2, w32_of (by omega) (by omega)]; omega), obind_some]
      dsimp only
      rw [x_within_ok (by rw [e4, w32_z]; omega) (by rw [e4, w32_of (by omega) (by omega)]; omega), obind_some]
      dsimp only
      rw [x_push_loop hN h (by omega) (by omega) h2, obind_some, e4]
      by_cases q : a4 = 0
      · rw [if_neg (by omega), if_pos q]
      · rw [if_pos q, if_neg q]
    · unfold m_push
      rw [m_isYard_eq e1, if_pos h1, obind_some, if_neg wz1, m_within_eq, e2, w32_z, w32_of (by omega) (by omega), if_pos h2, obind_some, if_neg wz1, m_isMinute_eq e3, if_pos h3, obind_some, if_neg wz1, m_within_eq, e4, w32_z, w32_of (by omega) (by omega), if_pos h4, obind_some, if_neg wz1]
      unfold m_push_j45
      rw [m_may_ok th0, obind_some, if_pos wz1, m_push_loop hN h (by omega) (by omega) h2, obind_some, e4]
      by_cases q : a4 = 0
      · rw [if_neg (by omega), if_pos q]
      · rw [if_pos q, if_neg q]
  · refine o_push_r1 (w := 0) ?_ ?_ h394 ht h
    · unfold x_push
      by_cases q1 : (0 ≤ a1 ∧ a1 ≤ 59) ∧ (0 ≤ a3 ∧ a3 ≤ 240)
      · rw [x_jack_ok e1 e3 q1.1 q1.2, obind_some]
        dsimp only [thT]
        by_cases q2 : 0 ≤ a2 ∧ a2 ≤ 99
        · rw [x_within_ok (by rw [e2, w32_z]; omega) (by rw [e2, w32_of (by omega) (by omega)]; omega), obind_some]
          dsimp only
          rw [x_within_no (by rw [e4, w32_z, w32_of (by omega) (by omega)]; exact fun q3 => hc ⟨q1, q2, q3⟩), obind_some]
        · rw [x_within_no (by rw [e2, w32_z, w32_of (by omega) (by omega)]; exact q2), obind_some]
      · rw [x_jack_no e1 e3 q1, obind_some]
        rfl
    · have j : m_push_j44 N (sI gm 900 0 0) a1 a2 a3 a4 = some (0, sA (sI (sI gm 900 0 0) 900 0 1) 1 1 (gA gm 1 1 + 1)) := by
        unfold m_push_j44 m_push_j45
        rw [m_may_no1 th0 (by omega), obind_some, if_neg wz0]; rfl
      unfold m_push
      rw [m_isYard_eq e1, obind_some]
      by_cases q1 : 0 ≤ a1 ∧ a1 ≤ 59
      · rw [if_pos q1, if_neg wz1, m_within_eq, e2, w32_z, w32_of (by omega) (by omega), obind_some]
        by_cases q2 : 0 ≤ a2 ∧ a2 ≤ 99
        · rw [if_pos q2, if_neg wz1, m_isMinute_eq e3, obind_some]
          by_cases q3 : 0 ≤ a3 ∧ a3 ≤ 240
          · rw [if_pos q3, if_neg wz1, m_within_eq, e4, w32_z, w32_of (by omega) (by omega), if_neg (fun q4 => hc ⟨⟨q1, q3⟩, q2, q4⟩), obind_some, if_pos w32_z, j]
          · rw [if_neg q3, if_pos w32_z, j]
        · rw [if_neg q2, if_pos w32_z, j]
      · rw [if_neg q1, if_pos w32_z, j]
