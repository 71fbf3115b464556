set_option maxRecDepth 100000
/-! PLAIN 15: more of what is told; what a deed needs -/
variable {N : Nat} {K : Nat → Nat} {t z r : Nat} {g gm g1 gm1 : GS} {a1 a2 a3 a4 a5 a6 v w : Int} {a : Ab} {rd : Rd}
theorem s_fault (h : Inv N t K z g gm a) (h394 : 394 ≤ z) : StepOK N t (lc_5 N K z g gm a1 a2 a3 a4 a5 a6) := by
  refine ⟨((K, z, g), sI gm 900 0 0), ?_, a, h.val0 .refl .th h394⟩
  unfold lc_5 x_fault m_fault
  rw [obind_some, obind_some]
  dsimp only
  rw [h.pl, show gI (sI gm 900 0 0) 908 0 = gI gm 908 0 by rw [gI_sI, if_neg (by omega)], if_pos rfl]
theorem s_share (h : Inv N t K z g gm a) (h394 : 394 ≤ z) (ht : t < 64) (e1 : w32 a1 = a1) : StepOK N t (lc_33 N K z g gm a1 a2 a3 a4 a5 a6) := by
  by_cases hc : 0 ≤ a1 ∧ a1 ≤ 12
  · refine o_share_v (v := i_div (16 - a1) 4) (w := i_div (16 - a1) 4) (g1 := g) (gm1 := sI gm 900 0 0) ?_ ?_ th0 rfl (h.val .refl .th h394)
    · unfold x_share
      rw [x_within_ok (by rw [e1, w32_z]; omega) (by rw [e1, w32_of (by omega) (by omega)]; omega), obind_some]
      rfl
    · unfold m_share
      rw [m_within_eq, e1, w32_z, w32_of (by omega) (by omega), if_pos hc, obind_some, m_may_ok th0, obind_some, if_pos wz1]
  · refine o_share_r1 (w := 0) ?_ ?_ h394 ht h
    · unfold x_share
      rw [x_within_no (by rw [e1, w32_z, w32_of (by omega) (by omega)]; exact hc)]
      rfl
    · unfold m_share
      rw [m_within_eq, e1, w32_z, w32_of (by omega) (by omega), if_neg hc, obind_some, m_may_no1 th0 (by omega), obind_some, if_neg wz0]
      rfl
theorem s_deed (h : Inv N t K z g gm a) (h394 : 394 ≤ z) (ht : t < 64) (e1 : w32 a1 = a1) (e2 : w32 a2 = a2) : StepOK N t (lc_7 N K z g gm a1 a2 a3 a4 a5 a6) := by
  have hD := h.ok.D
  by_cases hc : 0 ≤ a1 ∧ a1 < a.rd.D
  · obtain ⟨d, rfl⟩ := nat_of hc.1
    have hd : d < a.rd.D := by omega
    have mr := mrd_th h.mr
    by_cases hb : 0 ≤ a2 ∧ a2 ≤ 4
    · have key : ∀ v : Int, x_deed K g d a2 = some (.inr (v, g)) → rdA (sI gm 900 0 0) 10 60 (5 * (d : Int) + a2) = some v → StepOK N t (lc_7 N K z g gm d a2 a3 a4 a5 a6) := fun v q1 q2 => o_deed_v q1 (by
        unfold m_deed
        rw [m_isDeed_ok h hd, obind_some, if_neg wz1, m_within_eq, e2, w32_z, w32_of (by omega) (by omega), if_pos hb, obind_some, m_may_ok th0, obind_some, if_pos wz1, q2, obind_some]) th0 rfl (h.val .refl .th h394)
      have X := x_deedOf_ok h hd
      have Y := x_within_ok (g := g) (l1 := a2) (l2 := 0) (l3 := 4) (by rw [e2, w32_z]; omega) (by rw [e2, w32_of (by omega) (by omega)]; omega)
      have r0 := rdR_of h.r12 h.kr
      have c0 : a2 = 0 ∨ a2 = 1 ∨ a2 = 2 ∨ a2 = 3 ∨ a2 = 4 := by omega
      rcases c0 with q | q | q | q | q <;> subst q
      · exact key (a.rd.mi d) (by simp (disch := omega) [w32_of, bit_at, rdA_nat, wrA_nat, obind_some, outR_eq, x_deed, X, Y, thT, r0, h.xr.mi d hd]) (rdA_atv (mr.mi d hd) (by omega) (by omega) (by omega))
      · exact key (a.rd.ou d) (by simp (disch := omega) [w32_of, bit_at, rdA_nat, wrA_nat, obind_some, outR_eq, x_deed, X, Y, thT, r0, h.xr.ou d hd]) (rdA_atv (mr.ou d hd) (by omega) (by omega) (by omega))
      · exact key (a.rd.ha d) (by simp (disch := omega) [w32_of, bit_at, rdA_nat, wrA_nat, obind_some, outR_eq, x_deed, X, Y, thT, r0, h.xr.ha d hd]) (rdA_atv (mr.ha d hd) (by omega) (by omega) (by omega))
      · exact key (a.rd.sg d) (by simp (disch := omega) [w32_of, bit_at, rdA_nat, wrA_nat, obind_some, outR_eq, x_deed, X, Y, thT, r0, h.xr.sg d hd]) (rdA_atv (mr.sg d hd) (by omega) (by omega) (by omega))
      · exact key (a.rd.ne d) (by simp (disch := omega) [w32_of, bit_at, rdA_nat, wrA_nat, obind_some, outR_eq, x_deed, X, Y, thT, r0, h.xr.ne d hd]) (rdA_atv (mr.ne d hd) (by omega) (by omega) (by omega))
    · refine o_deed_r1 (w := 0) ?_ ?_ h394 ht h
      · unfold x_deed
        rw [x_deedOf_ok h hd, obind_some]
        dsimp only [thT]
        rw [x_within_no (by rw [e2, w32_z, w32_of (by omega) (by omega)]; exact hb)]
        rfl
      · unfold m_deed
        rw [m_isDeed_ok h hd, obind_some, if_neg wz1, m_within_eq, e2, w32_z, w32_of (by omega) (by omega), if_neg hb, obind_some, m_may_no1 th0 (by omega), obind_some, if_neg wz0]
        rfl
  · refine o_deed_r0 (w := 0) ?_ ?_ h394 ht h
    · unfold x_deed
      rw [x_deedOf_no h e1 hc]
      rfl
    · unfold m_deed
      rw [m_isDeed_no h e1 hc, obind_some, if_pos w32_z]
theorem s_rains (hN : 100000000000000000000 ≤ N) (h : Inv N t K z g gm a) (h394 : 394 ≤ z) (ht : t < 64) (e1 : w32 a1 = a1) : StepOK N t (lc_10 N K z g gm a1 a2 a3 a4 a5 a6) := by
  have hzb := h.zb
  by_cases hc : 0 ≤ a1 ∧ a1 ≤ 240
  · obtain ⟨m, rfl⟩ := nat_of hc.1
    have hx : x_rains N K g m = some (.inr ((if a.rd.ra m then 1 else 0), g)) := by
      unfold x_rains
      rw [x_within_ok (by rw [e1, w32_z]; omega) (by rw [e1, w32_of (by omega) (by omega)]; omega), obind_some]
      dsimp only [thT]
      rw [rdR_of h.r12 h.kr, obind_some, xRoad_isRain_eq hN h.xr (by omega), obind_some]
      unfold rtZ
      rw [if_pos (by split <;> omega)]
    have hm : m_rains gm m = some ((if a.rd.ra m then 1 else 0), sI gm 900 0 0) := by
      unfold m_rains
      rw [m_within_eq, e1, w32_z, w32_of (by omega) (by omega), if_pos hc, obind_some, m_may_ok th0, obind_some, if_pos wz1, rdA_val ((mrd_th h.mr).ra m (by omega)) (by omega) (by omega), obind_some]
      unfold rtZ
      rw [if_pos (by split <;> omega)]
    refine ⟨((K, z, sA g 393 0 (if a.rd.ra m then 1 else 0)), sI gm 900 0 0), ?_, a, h.val .refl .th h394⟩
    have e : xLaw0_rains N 393 K z g m = some (0, (K, z, sA g 393 0 (if a.rd.ra m then 1 else 0))) := by
      unfold xLaw0_rains
      rw [hx, obind_some]
      dsimp only [thT]
      unfold xLaw0_rains_j15
      dsimp only
      rw [wrA_at (i := 0) 0 rfl (by omega) (by omega), wrA_at (i := 0) 0 rfl (by omega) (by omega), obind_some, obind_some]
      cases a.rd.ra m <;> rfl
    unfold lc_10 m_thrown
    rw [e, hm, obind_some, obind_some, obind_some]
    dsimp only
    rw [th0, if_pos rfl, if_neg (by decide), rdA_atv (i := 0) (k := 0) (v := if a.rd.ra m then 1 else 0) (by simp [gA_sA]) rfl (by omega) (by omega), obind_some]
    cases a.rd.ra m
    · rw [if_pos (by decide), if_pos (by decide)]
    · rw [if_neg (by decide), if_pos (by decide)]
  · refine ⟨((kE 1 K z, z + 1, sA g 12 1 (gA g 12 1 + 1)), sA (sI (sI gm 900 0 0) 900 0 1) 1 1 (gA gm 1 1 + 1)), ?_, a, h.ref 1 (by omega) (fun q hq => by rw [kE_no3 (by omega)]) h394 ht (by show z ≤ z + 1; omega) (by show z + 1 ≤ _; omega)⟩
    have e : xLaw0_rains N 393 K z g a1 = some (1, (kE 1 K z, z + 1, sA g 12 1 (gA g 12 1 + 1))) := by
      unfold xLaw0_rains x_rains
      rw [x_within_no (by rw [e1, w32_z, w32_of (by omega) (by omega)]; exact hc)]
      show lim (z + 1) _ = _
      rw [lim_le (by omega)]; rfl
    have hm : m_rains gm a1 = some (0, sA (sI (sI gm 900 0 0) 900 0 1) 1 1 (gA gm 1 1 + 1)) := by
      unfold m_rains
      rw [m_within_eq, e1, w32_z, w32_of (by omega) (by omega), if_neg hc, obind_some, m_may_no1 th0 (by omega), obind_some, if_neg wz0]
      rfl
    unfold lc_10 m_thrown
    rw [e, hm, obind_some, obind_some, obind_some]
    dsimp only
    rw [show gI (sA (sI (sI gm 900 0 0) 900 0 1) 1 1 (gA gm 1 1 + 1)) 900 0 = 1 by rw [gI_sA, gI_sI, if_pos ⟨rfl, rfl⟩], if_pos rfl, if_pos (by decide)]
theorem s_status (h : Inv N t K z g gm a) (h394 : 394 ≤ z) (e1 : w32 a1 = a1) : StepOK N t (lc_47 N K z g gm a1 a2 a3 a4 a5 a6) := by
  by_cases hc : 0 ≤ a1 ∧ a1 ≤ 2
  · obtain ⟨j, rfl⟩ := nat_of hc.1
    refine ⟨((K, z, g), sI gm 900 0 0), ?_, a, h.val0 .refl .th h394⟩
    have hx : x_status g j = some (gA g 12 j) := by
      unfold x_status
      rw [e1, if_neg (by omega), w32_of (by omega) (by omega), if_pos (by omega), rdA_nat (by omega) (by omega), obind_some]
    have hm : m_status gm j = some (gA gm 1 j, sI gm 900 0 0) := by
      unfold m_status
      rw [m_within_eq, e1, w32_z, w32_of (by omega) (by omega), if_pos hc, obind_some, if_neg wz1, rdA_nat (by omega) (by omega), obind_some]
      rfl
    unfold lc_47
    rw [hx, hm, obind_some, obind_some]
    dsimp only
    rw [h.rf j (by omega), if_pos rfl]
  · refine ⟨((K, z, g), sI gm 900 0 0), ?_, a, h.val0 .refl .th h394⟩
    have hx : x_status g a1 = some (-1) := by
      unfold x_status
      rw [e1]
      by_cases e : a1 < 0
      · rw [if_pos e]
      · rw [if_neg e, w32_of (by omega) (by omega), if_neg (by omega)]
    have hm : m_status gm a1 = some (-1, sI gm 900 0 0) := by
      unfold m_status
      rw [m_within_eq, e1, w32_z, w32_of (by omega) (by omega), if_neg hc, obind_some, if_pos w32_z]
    unfold lc_47
    rw [hx, hm, obind_some, obind_some]
    dsimp only
    rw [if_pos rfl]
theorem s_count (h : Inv N t K z g gm a) (h394 : 394 ≤ z) (e1 : w32 a1 = a1) : StepOK N t (lc_48 N K z g gm a1 a2 a3 a4 a5 a6) := by
  obtain ⟨n, n1, n2, n3⟩ := h.fd
  refine ⟨((K, z, g), sI gm 900 0 0), ?_, a, h.val0 .refl .th h394⟩
  have e : ∃ v, x_count g a1 = some v ∧ m_count gm a1 = some (v, sI gm 900 0 0) := by
    unfold x_count m_count
    rw [e1, show w32 1 = 1 from rfl, show w32 2 = 2 from rfl]
    have b1 : gI (sI gm 900 0 0) 970 0 = a.ch := by rw [gI_sI, if_neg (by omega)]; exact h.mc
    have b2 : gI (sI gm 900 0 0) 972 0 = a.kp := by rw [gI_sI, if_neg (by omega)]; exact h.mk3
    have b3 : gI (sI gm 900 0 0) 902 0 = n := by rw [gI_sI, if_neg (by omega)]; exact n3
    rw [h.xc, h.xk, n2, b1, b2, b3]
    split
    · split
      · split
        · exact ⟨_, rfl, rfl⟩
        · exact ⟨_, rfl, rfl⟩
      · exact ⟨_, rfl, rfl⟩
    · exact ⟨_, rfl, rfl⟩
  obtain ⟨v, h1, h2⟩ := e
  unfold lc_48
  rw [h1, h2, obind_some, obind_some]
  dsimp only
  rw [if_pos rfl]
def ahS (rd : Rd) : Nat → Nat → Nat
  | 0, b => b
  | d + 1, b => ahS rd d (if b.testBit d then b ||| rd.ne d else b)
theorem or_lt {x y : Nat} (h1 : x < 4096) (h2 : y < 4096) : x ||| y < 4096 := Nat.or_lt_two_pow (n := 12) h1 h2
theorem xRoad_ahead_eq (hN : 100000000000000000000 ≤ N) (ok : RdOK rd) (h : XRd r g rd) {d : Nat} (hd : d < rd.D) : xRoad_ahead N r g d = some (((ahS rd d (rd.ne d) : Nat)) : Int) := by
  have hD := ok.D
  unfold xRoad_ahead
  rw [rdA_val (h.ne d hd) (by omega) (by omega), obind_some]
  refine loop_val (fun s => ∃ e b : Nat, e ≤ d ∧ b < 4096 ∧ s = ((b : Int), (e : Int) - 1) ∧ ahS rd e b = ahS rd d (rd.ne d)) (fun s => (s.2 + 1).toNat) (fun s hs => ?_) ⟨d, rd.ne d, Nat.le_refl _, ne_lt ok hd, rfl, rfl⟩ (by simp; omega)
  obtain ⟨e, b, h1, h2, rfl, h3⟩ := hs
  cases e with
  | zero =>
    right
    rw [← h3]
    simp (disch := omega) [w32_of, bit_at, rdA_nat, wrA_nat, obind_some, outR_eq, xRoad_ahead_b11, ahS]
  | succ e =>
    left
    rw [show (((e + 1 : Nat) : Int) - 1) = e by omega]
    rw [ahS] at h3
    have hn := ne_lt ok (d := e) (by omega)
    cases hb : b.testBit e
    · rw [hb] at h3
      refine ⟨((b : Int), (e : Int) - 1), ?_, ⟨e, b, by omega, h2, rfl, h3⟩, by dsimp only; omega⟩
      simp (disch := omega) [w32_of, bit_at, rdA_nat, wrA_nat, obind_some, outR_eq, xRoad_ahead_b11, hb, show ¬((e : Int) < 0) by omega]
      omega
    · rw [hb] at h3
      refine ⟨(((b ||| rd.ne e : Nat) : Int), (e : Int) - 1), ?_, ⟨e, b ||| rd.ne e, by omega, or_lt h2 hn, rfl, h3⟩, by dsimp only; omega⟩
      simp (disch := omega) [w32_of, bit_at, rdA_nat, wrA_nat, obind_some, outR_eq, xRoad_ahead_b11, hb, show ¬((e : Int) < 0) by omega, h.ne e (by omega), i_or_nat]
      omega
theorem m_ahead_loop (hN : 100000000000000000000 ≤ N) (ok : RdOK rd) (h : MRd gm rd) {d : Nat} (hd : d < rd.D) : loopN (fun s => m_ahead_b31 N gm s.1 s.2) N ((rd.ne d : Int), (d : Int) - 1) = some ((((ahS rd d (rd.ne d) : Nat)) : Int), gm) := by
  have hD := ok.D
  refine loop_val (fun s => ∃ e b : Nat, e ≤ d ∧ b < 4096 ∧ s = ((b : Int), (e : Int) - 1) ∧ ahS rd e b = ahS rd d (rd.ne d)) (fun s => (s.2 + 1).toNat) (fun s hs => ?_) ⟨d, rd.ne d, Nat.le_refl _, ne_lt ok hd, rfl, rfl⟩ (by simp; omega)
  obtain ⟨e, b, h1, h2, rfl, h3⟩ := hs
  cases e with
  | zero =>
    right
    rw [← h3]
    simp (disch := omega) [w32_of, bit_at, rdA_nat, wrA_nat, obind_some, outR_eq, m_ahead_b31, ahS]
  | succ e =>
    left
    rw [show (((e + 1 : Nat) : Int) - 1) = e by omega]
    rw [ahS] at h3
    have hn := ne_lt ok (d := e) (by omega)
    cases hb : b.testBit e
    · rw [hb] at h3
      have h0 : i_or (b : Int) 0 = b := by
        have := i_or_nat (a := b) (b := 0) (by omega) (by omega)
        rw [Nat.or_zero] at this
        exact this
      refine ⟨((b : Int), (e : Int) - 1), ?_, ⟨e, b, by omega, h2, rfl, h3⟩, by dsimp only; omega⟩
      simp (disch := omega) [w32_of, bit_at, rdA_nat, wrA_nat, obind_some, outR_eq, m_ahead_b31, hb, show ¬((e : Int) < 0) by omega, m_ahead_j59, h0]
      omega
    · rw [hb] at h3
      refine ⟨(((b ||| rd.ne e : Nat) : Int), (e : Int) - 1), ?_, ⟨e, b ||| rd.ne e, by omega, or_lt h2 hn, rfl, h3⟩, by dsimp only; omega⟩
      have q : rdA gm 10 60 (5 * (e : Int) + 4) = some ((rd.ne e : Nat) : Int) := rdA_atv (h.ne e (by omega)) (by omega) (by omega) (by omega)
      simp (disch := omega) [w32_of, bit_at, rdA_nat, wrA_nat, obind_some, outR_eq, m_ahead_b31, hb, show ¬((e : Int) < 0) by omega, m_ahead_j59, q, i_or_nat]
      omega
theorem s_ahead (hN : 100000000000000000000 ≤ N) (h : Inv N t K z g gm a) (h394 : 394 ≤ z) (ht : t < 64) (e1 : w32 a1 = a1) : StepOK N t (lc_19 N K z g gm a1 a2 a3 a4 a5 a6) := by
  have hD := h.ok.D
  by_cases hc : 0 ≤ a1 ∧ a1 < a.rd.D
  · obtain ⟨d, rfl⟩ := nat_of hc.1
    have hd : d < a.rd.D := by omega
    refine o_ahead_v (v := ((ahS a.rd d (a.rd.ne d) : Nat) : Int)) (w := ((ahS a.rd d (a.rd.ne d) : Nat) : Int)) (g1 := g) (gm1 := sI gm 900 0 0) ?_ ?_ th0 rfl (h.val .refl .th h394)
    · unfold x_ahead
      rw [x_deedOf_ok h hd, obind_some]
      dsimp only [thT]
      rw [rdR_of h.r12 h.kr, obind_some, xRoad_ahead_eq hN h.ok h.xr hd, obind_some]
    · unfold m_ahead
      rw [m_isDeed_ok h hd, obind_some, if_pos wz1, rdA_atv ((mrd_th h.mr).ne d hd) (by omega) (by omega) (by omega), obind_some]
      exact m_ahead_loop hN h.ok (mrd_th h.mr) hd
  · refine o_ahead_r0 (w := 0) ?_ ?_ h394 ht h
    · unfold x_ahead
      rw [x_deedOf_no h e1 hc]
      rfl
    · unfold m_ahead
      rw [m_isDeed_no h e1 hc, obind_some, if_neg wz0]
