set_option maxRecDepth 100000
/-! PLAIN 26: many evenings -/
variable {N : Nat} {K : Nat → Nat} {t z r o : Nat} {g gm g1 gm1 : GS} {a1 a2 a3 a4 a5 a6 v w : Int} {a : Ab} {rd : Rd}
theorem s_evenings (hN : 100000000000000000000 ≤ N) (h : Inv N t K z g gm a) (h394 : 394 ≤ z) (ht : t < 64) (e2 : w32 a2 = a2) (e3 : w32 a3 = a3) : StepOK N t (lc_40 N K z g gm a1 a2 a3 a4 a5 a6) := by
  by_cases hc : (1 ≤ a2 ∧ a2 ≤ 40) ∧ (0 ≤ a3 ∧ a3 ≤ 3)
  · obtain ⟨h2, h3⟩ := hc
    obtain ⟨m, rfl⟩ := nat_of (x := a2) (by omega)
    obtain ⟨e, f, z1, z2, z3, z4, z5⟩ := loop_two (B := fun s => x_evenings_b30 N K a1 m a3 s.1 s.2.1 s.2.2.1 s.2.2.2.1 s.2.2.2.2.1 s.2.2.2.2.2) (C := fun s => m_evenings_b55 N a1 m a3 s.1 s.2.1 s.2.2.1 s.2.2.2.1 s.2.2.2.2.1 s.2.2.2.2.2) (fun i q u => q.2.2.2.2.2 = (i : Int) ∧ u.2.2.2.2.2 = (i : Int) ∧ (if i = 0 then q.2.1 = 0 ∧ u.2.1 = -1 else q.2.1 = u.2.1 ∧ 0 ≤ u.2.1 ∧ u.2.1 ≤ 3600) ∧ q.2.2.1 = u.2.2.1 ∧ (0 ≤ u.2.2.1 ∧ u.2.2.1 ≤ 3600) ∧ q.2.2.2.1 = u.2.2.2.1 ∧ q.2.2.2.2.1 = u.2.2.2.2.1 ∧ WFr 14 g q.1 ∧ MFr (sI gm 900 0 0) u.1) (fun e f => e.2 = f.2 ∧ WFr 14 g e.1 ∧ MFr (sI gm 900 0 0) f.1) m (fun i q u hi hI => by
      obtain ⟨gq, j1, j2, j3, j4, j5⟩ := q
      obtain ⟨gu, k1, k2, k3, k4, k5⟩ := u
      obtain ⟨rfl, rfl, hA, rfl, hB, rfl, rfl, w1, w2⟩ := hI
      dsimp only at hA hB w1 w2
      by_cases c : i = m
      · right
        subst c
        rw [if_neg (by omega)] at hA
        obtain ⟨rfl, -, -⟩ := hA
        refine ⟨(gq, j1, j2, j3, j4), (gu, j1, j2, j3, j4), ?_, ?_, rfl, w1, w2⟩
        · unfold x_evenings_b30
          dsimp only
          rw [if_pos (by omega)]
        · unfold m_evenings_b55
          dsimp only
          rw [if_pos (by omega)]
      · left
        obtain ⟨gx, gm1, s, s', x1, m1, x2, m2, e, b, l, x3, m3⟩ := lost_eq hN h w1 w2 (a1 + i)
        have hsp := b.sp
        have hag := b.ag
        have esp : s'.sp = s.sp := e.sp.symm
        have xsp : gI gx 309 14 = s.sp := x2.sp
        have xag : gI gx 310 14 = s.ag := x2.ag
        have mag : gI gm1 958 0 = s.ag := by rw [m2.ag, ← e.ag]
        have X : ∀ s0 : Int, x_evenings_j66 N K gx a1 m a3 j2 j3 j4 i s.sp s0 = some (.inl (gx, s0, max j2 s.sp, j3 + s.sp, (if s.ag = 0 then j4 + 1 else j4), (i : Int) + 1)) := by
          intro s0
          unfold x_evenings_j66
          rw [xag, w32_of (by omega) (by omega), imax_of (by omega) (by omega) (by omega) (by omega)]
          by_cases q : s.ag = 0
          · rw [if_neg (by omega), if_pos q]
          · rw [if_pos q, if_neg q]
        have Y : ∀ s0 : Int, m_evenings_j96 N gm1 a1 m a3 j2 j3 j4 i s.sp s0 = some (.inl (gm1, s0, max j2 s.sp, j3 + s.sp, (if s.ag = 0 then j4 + 1 else j4), (i : Int) + 1)) := by
          intro s0
          have Z : ∀ mx : Int, m_evenings_j112 N gm1 a1 m a3 s0 j3 j4 i s.sp mx = some (.inl (gm1, s0, mx, j3 + s.sp, (if s.ag = 0 then j4 + 1 else j4), (i : Int) + 1)) := by
            intro mx
            unfold m_evenings_j112 m_evenings_j135
            rw [mag, w32_of (by omega) (by omega)]
            by_cases q : s.ag = 0
            · rw [if_neg (by omega), if_pos q]
            · rw [if_pos q, if_neg q, Int.add_zero]
          unfold m_evenings_j96
          rw [w32_of (by omega) (by omega), w32_of (by omega) (by omega), Z, Z]
          by_cases q : s.sp ≤ j2
          · rw [if_pos q, Int.max_eq_left q]
          · rw [if_neg q, Int.max_eq_right (by omega)]
        have lx : ∀ v : Int, v = (if i = 0 then s.sp else min j1 s.sp) → x_evenings_b30 N K a1 m a3 gq j1 j2 j3 j4 i = some (.inl (gx, v, max j2 s.sp, j3 + s.sp, (if s.ag = 0 then j4 + 1 else j4), (i : Int) + 1)) := by
          intro v hv
          unfold x_evenings_b30
          rw [w32_of (by omega) (by omega), w32_of (by omega) (by omega), if_neg (by omega), x1, obind_some, xsp, X, X]
          by_cases q : i = 0
          · rw [if_neg (by omega), hv, if_pos q]
          · rw [if_neg q] at hA
            rw [if_pos (by omega), hv, if_neg q, imin_of (by omega) (by omega) (by omega) (by omega)]
        have lm : ∀ v : Int, v = (if i = 0 then s.sp else min k1 s.sp) → m_evenings_b55 N a1 m a3 gu k1 j2 j3 j4 i = some (.inl (gm1, v, max j2 s.sp, j3 + s.sp, (if s.ag = 0 then j4 + 1 else j4), (i : Int) + 1)) := by
          intro v hv
          unfold m_evenings_b55
          rw [w32_of (by omega) (by omega), w32_of (by omega) (by omega), if_neg (by omega), m1, obind_some]
          dsimp only
          rw [esp, Y, Y]
          by_cases q : i = 0
          · rw [if_pos q] at hA
            rw [hA.2, if_pos (by decide), hv, if_pos q]
          · rw [if_neg q] at hA
            rw [w32_of (by omega) (by omega), w32_m1, if_neg (by omega), w32_of (by omega) (by omega), hv, if_neg q]
            by_cases q2 : k1 ≤ s.sp
            · rw [if_pos q2, Int.min_eq_left q2]
            · rw [if_neg q2, Int.min_eq_right (by omega)]
        refine ⟨by omega, _, _, lx _ rfl, lm _ rfl, rfl, rfl, ?_, rfl, ⟨by dsimp only; omega, by dsimp only; omega⟩, rfl, rfl, x3, m3⟩
        rw [if_neg (by omega)]
        dsimp only
        by_cases q : i = 0
        · rw [if_pos q, if_pos q]; omega
        · rw [if_neg q] at hA
          rw [if_neg q, if_neg q, hA.1]; omega) N (g, 0, 0, 0, 0, 0) (sI gm 900 0 0, (-1), 0, 0, 0, 0) ⟨rfl, rfl, ⟨rfl, rfl⟩, rfl, (by decide : (0 : Int) ≤ 0 ∧ (0 : Int) ≤ 3600), rfl, rfl, .refl, .refl'⟩ (by omega)
    obtain ⟨gx, e1⟩ := e
    obtain ⟨gy, f1⟩ := f
    dsimp only at z3 z4 z5
    subst z3
    have ms := (MSame.th).trans z5.ms
    have tz : gI gy 900 0 = 0 := by rw [z5.1 _ _ (by omega) (by omega)]; exact th0
    have X : x_within g m 1 40 = some (.inr g) := x_within_ok (by rw [e2, w32_of (by omega) (by omega)]; omega) (by rw [e2, w32_of (by omega) (by omega)]; omega)
    have X3 : x_within g a3 0 3 = some (.inr g) := x_within_ok (by rw [e3, w32_z]; omega) (by rw [e3, w32_of (by omega) (by omega)]; omega)
    have key : ∀ v : Int, v = (if a3 = 0 then e1.1 else if a3 = 1 then e1.2.1 else if a3 = 2 then e1.2.2.1 else e1.2.2.2) → StepOK N t (lc_40 N K z g gm a1 m a3 a4 a5 a6) := by
      intro v hv
      refine o_evenings_v (v := v) (w := v) (g1 := gx) (gm1 := gy) ?_ ?_ tz rfl (h.val z4.xs ms h394)
      · unfold x_evenings
        rw [X, obind_some]
        dsimp only [thT]
        rw [X3, obind_some]
        dsimp only
        rw [z1, obind_some, e3, show w32 1 = 1 from rfl, show w32 2 = 2 from rfl, hv]
        dsimp only
        by_cases q0 : a3 = 0
        · rw [if_neg (by omega), if_pos q0]
        · rw [if_pos q0, if_neg q0]
          by_cases q1 : a3 = 1
          · rw [if_neg (by omega), if_pos q1]
          · rw [if_pos q1, if_neg q1]
            by_cases q2 : a3 = 2
            · rw [if_neg (by omega), if_pos q2]
            · rw [if_pos q2, if_neg q2]
      · unfold m_evenings m_evenings_j30
        rw [m_within_eq, e2, w32_of (a := 1) (by omega) (by omega), w32_of (by omega) (by omega), if_pos h2, obind_some, if_neg wz1, m_within_eq, e3, w32_z, w32_of (by omega) (by omega), if_pos h3, obind_some, if_neg wz1, m_may_ok th0, obind_some, if_pos wz1]
        dsimp only
        rw [z2, obind_some, show w32 2 = 2 from rfl, hv]
        dsimp only
        by_cases q0 : a3 = 0
        · rw [if_neg (by omega), if_pos q0]
        · rw [if_pos q0, if_neg q0]
          by_cases q1 : a3 = 1
          · rw [if_neg (by omega), if_pos q1]
          · rw [if_pos q1, if_neg q1]
            by_cases q2 : a3 = 2
            · rw [if_neg (by omega), if_pos q2]
            · rw [if_pos q2, if_neg q2]
    exact key _ rfl
  · refine o_evenings_r1 (w := 0) ?_ ?_ h394 ht h
    · unfold x_evenings
      by_cases q : 1 ≤ a2 ∧ a2 ≤ 40
      · rw [x_within_ok (by rw [e2, w32_of (by omega) (by omega)]; omega) (by rw [e2, w32_of (by omega) (by omega)]; omega), obind_some]
        dsimp only [thT]
        rw [x_within_no (by rw [e3, w32_z, w32_of (by omega) (by omega)]; exact fun q2 => hc ⟨q, q2⟩), obind_some]
      · rw [x_within_no (by rw [e2, w32_of (by omega) (by omega), w32_of (by omega) (by omega)]; exact q), obind_some]
        rfl
    · have j : m_evenings_j29 N (sI gm 900 0 0) a1 a2 a3 = some (0, sA (sI (sI gm 900 0 0) 900 0 1) 1 1 (gA gm 1 1 + 1)) := by
        unfold m_evenings_j29 m_evenings_j30
        rw [m_may_no1 th0 (by omega), obind_some, if_neg wz0]; rfl
      unfold m_evenings
      rw [m_within_eq, e2, w32_of (by omega) (by omega), w32_of (by omega) (by omega), obind_some]
      by_cases q : 1 ≤ a2 ∧ a2 ≤ 40
      · rw [if_pos q, if_neg wz1, m_within_eq, e3, w32_z, w32_of (by omega) (by omega), if_neg (fun q2 => hc ⟨q, q2⟩), obind_some, if_pos w32_z, j]
      · rw [if_neg q, if_pos w32_z, j]
