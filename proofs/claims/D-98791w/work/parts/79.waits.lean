set_option maxRecDepth 100000
/-! PLAIN 20: half, easiest; waits -/
variable {N : Nat} {K : Nat → Nat} {t z r : Nat} {g gm g1 gm1 : GS} {a1 a2 a3 a4 a5 a6 v w : Int} {a : Ab} {rd : Rd}
def hfS (q : Nat) : Nat → Int
  | 0 => -1
  | k + 1 => if 2 * q ^ (7 - k) ≤ 16 ^ (7 - k) then ((7 - k : Nat) : Int) else hfS q k
theorem cmp_half {c d : Nat} (hc : c < 4611686018427387904) (hd : d < 9223372036854775808) : (0 < w32 (l_cmp (2 * (c : Int)) d)) ↔ ¬(2 * c ≤ d) := by
  rw [show (2 * (c : Int)) = ((2 * c : Nat) : Int) by omega, l_cmp_nat (by omega) hd]
  by_cases h1 : d < 2 * c
  · rw [if_pos h1]; exact ⟨fun _ => by omega, fun _ => by decide⟩
  · rw [if_neg h1]
    split
    · exact ⟨fun q => absurd q (by decide), fun _ => by omega⟩
    · exact ⟨fun q => absurd q (by decide), fun _ => by omega⟩
theorem x_half_loop (hN : 100000000000000000000 ≤ N) (h : Inv N t K z g gm a) {u : Nat} (hu : u < a.rd.U) {s : Int} (hs : 0 ≤ s ∧ s ≤ 18) : loopN (fun q => x_half_b19 N K g u s q) N 1 = some (.inr (hfS (stkS a.rd u s) 7, g)) := by
  have hsl := stkS_le (rd := a.rd) u s
  refine loop_val (fun q => ∃ k : Nat, k ≤ 7 ∧ q = ((8 - k : Nat) : Int) ∧ hfS (stkS a.rd u s) k = hfS (stkS a.rd u s) 7) (fun q => (8 - q).toNat) (fun q hq => ?_) ⟨7, by omega, rfl, rfl⟩ (by omega)
  obtain ⟨k, h1, rfl, h3⟩ := hq
  cases k with
  | zero =>
    right
    rw [← h3]
    rfl
  | succ k =>
    have P1 := x_power_eq hN (b := 16) (n := 8 - (k + 1)) (by omega) (by omega)
    have P2 := x_power_eq hN (b := stkS a.rd u s) (n := 8 - (k + 1)) (by omega) (by omega)
    have hp := p16 (n := 8 - (k + 1)) (by omega)
    have hst := stk_pow (rd := a.rd) u s (8 - (k + 1))
    rw [hfS, show 7 - k = 8 - (k + 1) by omega] at h3
    have B : x_half_b19 N K g u s ((8 - (k + 1) : Nat) : Int) = if 2 * (stkS a.rd u s) ^ (8 - (k + 1)) ≤ 16 ^ (8 - (k + 1)) then some (.inr (.inr (((8 - (k + 1) : Nat) : Int), g))) else some (.inl (((8 - (k + 1) : Nat) : Int) + 1)) := by
      unfold x_half_b19
      rw [w32_of (by omega) (by omega), w32_of (by omega) (by omega), if_neg (by omega), x_loosens_eq h hu hs, obind_some, stkS_eq, P2, obind_some, show (16 : Int) = ((16 : Nat) : Int) from rfl, P1, obind_some]
      by_cases c : 2 * (stkS a.rd u s) ^ (8 - (k + 1)) ≤ 16 ^ (8 - (k + 1))
      · rw [if_neg (fun q => (cmp_half (by omega) (by omega)).mp q c), if_pos c]; rfl
      · rw [if_pos ((cmp_half (by omega) (by omega)).mpr c), if_neg c]
    by_cases c : 2 * (stkS a.rd u s) ^ (8 - (k + 1)) ≤ 16 ^ (8 - (k + 1))
    · right
      rw [if_pos c] at h3
      rw [B, if_pos c, ← h3]
    · left
      rw [if_neg c] at h3
      exact ⟨_, by rw [B, if_neg c], ⟨k, by omega, by omega, h3⟩, by omega⟩
theorem m_half_loop (hN : 100000000000000000000 ≤ N) (ok : RdOK rd) (h : MRd gm rd) {u : Nat} (hu : u < rd.U) {s : Int} (hs : 0 ≤ s ∧ s ≤ 18) : loopN (fun q => m_half_b34 N gm u s q) N 1 = some (hfS (stkS rd u s) 7, gm) := by
  have hsl := stkS_le (rd := rd) u s
  refine loop_val (fun q => ∃ k : Nat, k ≤ 7 ∧ q = ((8 - k : Nat) : Int) ∧ hfS (stkS rd u s) k = hfS (stkS rd u s) 7) (fun q => (8 - q).toNat) (fun q hq => ?_) ⟨7, by omega, rfl, rfl⟩ (by omega)
  obtain ⟨k, h1, rfl, h3⟩ := hq
  cases k with
  | zero =>
    right
    rw [← h3]
    rfl
  | succ k =>
    have P1 := m_power_eq hN (b := 16) (n := 8 - (k + 1)) (by omega)
    have P2 := m_stuck_eq hN ok h (n := 8 - (k + 1)) hu hs (by omega)
    have hp := p16 (n := 8 - (k + 1)) (by omega)
    have hst := stk_pow (rd := rd) u s (8 - (k + 1))
    rw [hfS, show 7 - k = 8 - (k + 1) by omega] at h3
    have B : m_half_b34 N gm u s ((8 - (k + 1) : Nat) : Int) = if 2 * (stkS rd u s) ^ (8 - (k + 1)) ≤ 16 ^ (8 - (k + 1)) then some (.inr (((8 - (k + 1) : Nat) : Int), gm)) else some (.inl (((8 - (k + 1) : Nat) : Int) + 1)) := by
      unfold m_half_b34
      rw [w32_of (by omega) (by omega), w32_of (by omega) (by omega), if_neg (by omega), P2, obind_some, show (16 : Int) = ((16 : Nat) : Int) from rfl, P1, obind_some]
      by_cases c : 2 * (stkS rd u s) ^ (8 - (k + 1)) ≤ 16 ^ (8 - (k + 1))
      · rw [if_neg (fun q => (cmp_half (by omega) (by omega)).mp q c), if_pos c]; rfl
      · rw [if_pos ((cmp_half (by omega) (by omega)).mpr c), if_neg c]
    by_cases c : 2 * (stkS rd u s) ^ (8 - (k + 1)) ≤ 16 ^ (8 - (k + 1))
    · right
      rw [if_pos c] at h3
      rw [B, if_pos c, ← h3]
    · left
      rw [if_neg c] at h3
      exact ⟨_, by rw [B, if_neg c], ⟨k, by omega, by omega, h3⟩, by omega⟩
theorem s_half (hN : 100000000000000000000 ≤ N) (h : Inv N t K z g gm a) (h394 : 394 ≤ z) (ht : t < 64) (e1 : w32 a1 = a1) (e2 : w32 a2 = a2) : StepOK N t (lc_27 N K z g gm a1 a2 a3 a4 a5 a6) := by
  by_cases hc : 0 ≤ a1 ∧ a1 < a.rd.U
  · obtain ⟨u, rfl⟩ := nat_of hc.1
    have hu : u < a.rd.U := by omega
    by_cases hd : 0 ≤ a2 ∧ a2 ≤ 18
    · refine o_half_v (v := hfS (stkS a.rd u a2) 7) (w := hfS (stkS a.rd u a2) 7) (g1 := g) (gm1 := sI gm 900 0 0) ?_ ?_ th0 rfl (h.val .refl .th h394)
      · unfold x_half
        rw [rdR_of h.r12 h.kr, obind_some, x_nut_ok h hu, obind_some]
        dsimp only [thT]
        rw [x_strength_ok e2 hd, obind_some]
        exact x_half_loop hN h hu hd
      · unfold m_half
        rw [m_isNut_ok h hu, obind_some, if_neg wz1, m_within_eq, e2, w32_z, w32_of (by omega) (by omega), if_pos hd, obind_some, m_may_ok th0, obind_some, if_pos wz1]
        exact m_half_loop hN h.ok (mrd_th h.mr) hu hd
    · refine o_half_r1 (w := 0) ?_ ?_ h394 ht h
      · unfold x_half
        rw [rdR_of h.r12 h.kr, obind_some, x_nut_ok h hu, obind_some]
        dsimp only [thT]
        rw [x_strength_no e2 hd, obind_some]
      · unfold m_half
        rw [m_isNut_ok h hu, obind_some, if_neg wz1, m_within_eq, e2, w32_z, w32_of (by omega) (by omega), if_neg hd, obind_some, m_may_no1 th0 (by omega), obind_some, if_neg wz0]
        rfl
  · refine o_half_r0 (w := 0) ?_ ?_ h394 ht h
    · unfold x_half
      rw [rdR_of h.r12 h.kr, obind_some, x_nut_no h e1 hc, obind_some]
      rfl
    · unfold m_half
      rw [m_isNut_no h e1 hc, obind_some, if_pos w32_z]
def eaS (rd : Rd) (s : Int) : Nat → Int
  | 0 => -1
  | i + 1 => if eaS rd s i = -1 then (i : Int) else if easeS rd i s ≤ easeS rd (eaS rd s i).toNat s then eaS rd s i else i
theorem eaS_bd (s : Int) : ∀ i, -1 ≤ eaS rd s i ∧ eaS rd s i < i
  | 0 => by simp [eaS]
  | i + 1 => by
    have := eaS_bd s i
    rw [eaS]
    split
    · omega
    · split <;> omega
theorem s_easiest (hN : 100000000000000000000 ≤ N) (h : Inv N t K z g gm a) (h394 : 394 ≤ z) (ht : t < 64) (e1 : w32 a1 = a1) : StepOK N t (lc_28 N K z g gm a1 a2 a3 a4 a5 a6) := by
  have hU := h.ok.U
  have mr := mrd_th h.mr
  by_cases hc : 0 ≤ a1 ∧ a1 ≤ 18
  · refine o_easiest_v (v := eaS a.rd a1 a.rd.U) (w := eaS a.rd a1 a.rd.U) (g1 := g) (gm1 := sI gm 900 0 0) ?_ ?_ th0 rfl (h.val .refl .th h394)
    · unfold x_easiest
      rw [x_strength_ok e1 hc, obind_some]
      dsimp only [thT]
      refine loop_up' (fun i => (eaS a.rd a1 i, (i : Int))) a.rd.U _ rfl (fun i hi => ?_) ?_ (by omega)
      · have hb := eaS_bd (rd := a.rd) a1 i
        unfold x_easiest_b9 x_easiest_j40
        dsimp only
        rw [rdR_of h.r12 h.kr, obind_some, h.xr.U, w32_of (by omega) (by omega), w32_of (by omega) (by omega), if_neg (by omega), w32_of (by omega) (by omega), w32_m1, eaS]
        by_cases c : eaS a.rd a1 i = -1
        · rw [if_pos c, if_pos c]; rfl
        · obtain ⟨u, hu⟩ := nat_of (x := eaS a.rd a1 i) (by omega)
          have q1 := easeS_bd (rd := a.rd) i a1
          have q2 := easeS_bd (rd := a.rd) u a1
          rw [if_neg c, if_neg c, hu, x_loosens_eq h hi hc, obind_some, x_loosens_eq h (by omega) hc, obind_some, w32_of (by omega) (by omega), w32_of (by omega) (by omega), show ((u : Int)).toNat = u from rfl]
          split <;> rfl
      · unfold x_easiest_b9
        dsimp only
        rw [rdR_of h.r12 h.kr, obind_some, h.xr.U, if_pos (by omega)]; rfl
    · unfold m_easiest
      rw [m_within_eq, e1, w32_z, w32_of (by omega) (by omega), if_pos hc, obind_some, m_may_ok th0, obind_some, if_pos wz1]
      refine loop_up' (fun i => (eaS a.rd a1 i, (i : Int))) a.rd.U _ rfl (fun i hi => ?_) ?_ (by omega)
      · have hb := eaS_bd (rd := a.rd) a1 i
        unfold m_easiest_b27 m_easiest_j55
        dsimp only
        rw [mr.U, w32_of (by omega) (by omega), w32_of (by omega) (by omega), if_neg (by omega), w32_of (by omega) (by omega), w32_m1, eaS]
        by_cases c : eaS a.rd a1 i = -1
        · rw [if_pos c, if_pos c]; rfl
        · obtain ⟨u, hu⟩ := nat_of (x := eaS a.rd a1 i) (by omega)
          have q1 := easeS_bd (rd := a.rd) i a1
          have q2 := easeS_bd (rd := a.rd) u a1
          rw [if_neg c, if_neg c, hu, m_easeOf_eq h.ok mr hi hc, obind_some, m_easeOf_eq h.ok mr (by omega) hc, obind_some, w32_of (by omega) (by omega), w32_of (by omega) (by omega), show ((u : Int)).toNat = u from rfl]
          split <;> rfl
      · unfold m_easiest_b27
        dsimp only
        rw [mr.U, if_pos (by omega)]; rfl
  · refine o_easiest_r1 (w := 0) ?_ ?_ h394 ht h
    · unfold x_easiest
      rw [x_strength_no e1 hc, obind_some]
      rfl
    · unfold m_easiest
      rw [m_within_eq, e1, w32_z, w32_of (by omega) (by omega), if_neg hc, obind_some, m_may_no1 th0 (by omega), obind_some, if_neg wz0]
      rfl
/-- the sum of waiting, as the model has it -/
def msS (q p h : Nat) : Nat → Nat
  | 0 => 0
  | i + 1 => 16 * msS q p h i + p ^ i * q * (i + 1 + h)
def mnS (q p m h w : Nat) : Nat := msS q p h w + p ^ w * (w + m)
theorem p8 {i : Nat} (h : i < 8) : 16 ^ (8 - i) = 16 * 16 ^ (8 - (i + 1)) := by
  rw [show 8 - i = (8 - (i + 1)) + 1 by omega, Nat.pow_succ, Nat.mul_comm]
theorem xsum_step {q p h i s : Nat} (hi : i < 8) : 16 ^ (8 - i) * s + q * p ^ i * 16 ^ (8 - (i + 1)) * (i + 1 + h) = 16 ^ (8 - (i + 1)) * (16 * s + p ^ i * q * (i + 1 + h)) := by
  rw [p8 hi]
  generalize 16 ^ (8 - (i + 1)) = c
  generalize p ^ i = b
  grind
theorem msS_bd {q p h : Nat} (hq : q ≤ 16) (hp : p ≤ 16) (hh : h ≤ 240) : ∀ i, i ≤ 8 → msS q p h i ≤ i * 16 ^ i * 248
  | 0, _ => by simp [msS]
  | i + 1, hi => by
    have h1 := msS_bd hq hp hh i (by omega)
    have h2 : p ^ i ≤ 16 ^ i := Nat.pow_le_pow_left hp i
    have h3 : p ^ i * q ≤ 16 ^ i * 16 := Nat.mul_le_mul h2 hq
    have h4 : p ^ i * q * (i + 1 + h) ≤ 16 ^ i * 16 * 248 := Nat.mul_le_mul h3 (by omega)
    rw [msS, Nat.pow_succ]
    have h5 : (i + 1) * (16 ^ i * 16) * 248 = 16 * (i * 16 ^ i * 248) + 16 ^ i * 16 * 248 := by
      generalize 16 ^ i = c
      grind
    omega
theorem mnS_bd {q p m h w : Nat} (hq : q ≤ 16) (hp : p ≤ 16) (hh : h ≤ 240) (hm : m ≤ 240) (hw : w ≤ 8) : 16 ^ (8 - w) * mnS q p m h w ≤ 16 ^ 8 * 2232 := by
  have h1 := msS_bd hq hp hh w hw
  have h2 : p ^ w ≤ 16 ^ w := Nat.pow_le_pow_left hp w
  have h3 : p ^ w * (w + m) ≤ 16 ^ w * 248 := Nat.mul_le_mul h2 (by omega)
  have h4 : w * 16 ^ w * 248 ≤ 8 * 16 ^ w * 248 := Nat.mul_le_mul_right _ (Nat.mul_le_mul_right _ hw)
  have h5 : mnS q p m h w ≤ 16 ^ w * 2232 := by unfold mnS; omega
  have h6 : 16 ^ (8 - w) * mnS q p m h w ≤ 16 ^ (8 - w) * (16 ^ w * 2232) := Nat.mul_le_mul_left _ h5
  have h7 : 16 ^ (8 - w) * (16 ^ w * 2232) = 16 ^ 8 * 2232 := by
    rw [← Nat.mul_assoc, ← Nat.pow_add, show 8 - w + w = 8 by omega]
  omega
theorem mnS_le {q p m h w : Nat} (hq : q ≤ 16) (hp : p ≤ 16) (hh : h ≤ 240) (hm : m ≤ 240) (hw : w ≤ 8) : mnS q p m h w ≤ 16 ^ 8 * 2232 := by
  have h1 := mnS_bd hq hp hh hm hw
  have h2 : 1 * mnS q p m h w ≤ 16 ^ (8 - w) * mnS q p m h w := Nat.mul_le_mul_right _ (p16_pos _)
  omega
theorem x_meanOf_eq (hN : 100000000000000000000 ≤ N) (h : Inv N t K z g gm a) {q p : Nat} (hq : a.rd.stops = q) (hp : p = 16 - q) {w m hh : Nat} (hw : w ≤ 8) (hm : m ≤ 240) (hh2 : hh ≤ 240) : x_meanOf N K g w m hh = some ((16 ^ (8 - w) * mnS q p m hh w : Nat) : Int) := by
  have hst := h.ok.stops
  have hs8 : (16 : Int) - gI g 820 a.r = (p : Int) := by rw [h.xr.stops, hq]; omega
  have hq2 : gI g 820 a.r = (q : Int) := by rw [h.xr.stops, hq]
  unfold x_meanOf
  have L : loopN (fun s => x_meanOf_b6 N K g w m hh s.1 s.2) N (0, 1) = some ((16 ^ (8 - w) * msS q p hh w : Nat) : Int) := by
    refine loop_up' (N := N) (fun i => (((16 ^ (8 - i) * msS q p hh i : Nat) : Int), (i : Int) + 1)) w _ rfl (fun i hi => ?_) ?_ (by omega)
    · have P1 := x_power_eq hN (b := p) (n := i) (by omega) (by omega)
      have P2 := x_power_eq hN (b := 16) (n := 8 - (i + 1)) (by omega) (by omega)
      unfold x_meanOf_b6
      dsimp only
      rw [w32_of (by omega) (by omega), w32_of (by omega) (by omega), if_neg (by omega), rdR_of h.r12 h.kr, obind_some, obind_some, hs8, show (i : Int) + 1 - 1 = i by omega, P1, obind_some, show (8 : Int) - ((i : Int) + 1) = ((8 - (i + 1) : Nat) : Int) by omega, show (16 : Int) = ((16 : Nat) : Int) from rfl, P2, obind_some, hq2, w32_of (by omega) (by omega), w32_of (by omega) (by omega), show (i : Int) + 1 + hh = ((i + 1 + hh : Nat) : Int) by omega, ← Int.natCast_mul, ← Int.natCast_mul, ← Int.natCast_mul, ← Int.natCast_add, xsum_step (by omega)]
      rfl
    · unfold x_meanOf_b6
      dsimp only
      rw [w32_of (by omega) (by omega), w32_of (by omega) (by omega), if_pos (by omega)]
  have P1 := x_power_eq hN (b := p) (n := w) (by omega) (by omega)
  have P2 := x_power_eq hN (b := 16) (n := 8 - w) (by omega) (by omega)
  rw [L, obind_some, rdR_of h.r12 h.kr, obind_some, hs8, P1, obind_some, show (8 : Int) - (w : Int) = ((8 - w : Nat) : Int) by omega, show (16 : Int) = ((16 : Nat) : Int) from rfl, P2, obind_some, w32_of (by omega) (by omega), ← Int.natCast_add, ← Int.natCast_mul, ← Int.natCast_mul, ← Int.natCast_add]
  unfold mnS
  congr 2
  generalize 16 ^ (8 - w) = c
  generalize p ^ w = b
  generalize msS q p hh w = s
  grind
theorem m_meanOf_eq (hN : 100000000000000000000 ≤ N) (ok : RdOK rd) (h : MRd gm rd) {q p : Nat} (hq : rd.stops = q) (hp : p = 16 - q) {w m hh : Nat} (hw : w ≤ 8) (hm : m ≤ 240) (hh2 : hh ≤ 240) : m_meanOf N gm w m hh = some ((mnS q p m hh w : Nat) : Int) := by
  have hst := ok.stops
  unfold m_meanOf
  rw [rdA_atv (i := 1) (k := 1) h.stops rfl (by omega) (by omega), obind_some, hq]
  have L : loopN (fun s => m_meanOf_b17 N gm w m hh q s.1 s.2.1 s.2.2) N (0, 1, 1) = some (((msS q p hh w : Nat) : Int), ((p ^ w : Nat) : Int)) := by
    refine loop_up' (N := N) (fun i => (((msS q p hh i : Nat) : Int), ((p ^ i : Nat) : Int), (i : Int) + 1)) w _ rfl (fun i hi => ?_) ?_ (by omega)
    · unfold m_meanOf_b17
      dsimp only
      rw [w32_of (by omega) (by omega), w32_of (by omega) (by omega), if_neg (by omega), w32_of (by omega) (by omega), w32_of (by omega) (by omega), w32_of (by omega) (by omega), show (16 : Int) - (q : Int) = (p : Int) by omega, show (i : Int) + 1 + hh = ((i + 1 + hh : Nat) : Int) by omega, show (16 : Int) = ((16 : Nat) : Int) from rfl, ← Int.natCast_mul, ← Int.natCast_mul, ← Int.natCast_mul, ← Int.natCast_add, ← Int.natCast_mul, ← Nat.pow_succ]
      rfl
    · unfold m_meanOf_b17
      dsimp only
      rw [w32_of (by omega) (by omega), w32_of (by omega) (by omega), if_pos (by omega)]
  rw [L, obind_some]
  dsimp only
  rw [w32_of (by omega) (by omega), ← Int.natCast_add, ← Int.natCast_mul, ← Int.natCast_add]
  rfl
theorem partS_mul {c u l : Nat} (hc : 0 < c) (which : Int) : partS (c * u) (c * l) which = partS u l which := by
  unfold partS
  rw [Nat.gcd_mul_left, Nat.mul_div_mul_left _ _ hc, Nat.mul_div_mul_left _ _ hc]
theorem x_waiting_ok {m h : Int} (e1 : w32 m = m) (e2 : w32 h = h) (h1 : 0 ≤ m ∧ m ≤ 240) (h2 : 0 ≤ h ∧ h ≤ 240) : x_waiting g m h = some (.inr g) := by
  unfold x_waiting
  rw [x_within_ok (by rw [e1, w32_z]; omega) (by rw [e1, w32_of (by omega) (by omega)]; omega), obind_some]
  dsimp only [thT]
  rw [x_within_ok (by rw [e2, w32_z]; omega) (by rw [e2, w32_of (by omega) (by omega)]; omega), obind_some]
theorem x_waiting_no {m h : Int} (e1 : w32 m = m) (e2 : w32 h = h) (hn : ¬((0 ≤ m ∧ m ≤ 240) ∧ (0 ≤ h ∧ h ≤ 240))) : x_waiting g m h = some (.inl (1, sA g 12 1 (gA g 12 1 + 1))) := by
  unfold x_waiting
  by_cases h1 : 0 ≤ m ∧ m ≤ 240
  · rw [x_within_ok (by rw [e1, w32_z]; omega) (by rw [e1, w32_of (by omega) (by omega)]; omega), obind_some]
    dsimp only [thT]
    rw [x_within_no (by rw [e2, w32_z, w32_of (by omega) (by omega)]; exact fun q => hn ⟨h1, q⟩), obind_some]
  · rw [x_within_no (by rw [e1, w32_z, w32_of (by omega) (by omega)]; exact h1), obind_some]
    rfl
theorem s_waits (hN : 100000000000000000000 ≤ N) (h : Inv N t K z g gm a) (h394 : 394 ≤ z) (ht : t < 64) (e1 : w32 a1 = a1) (e2 : w32 a2 = a2) (e3 : w32 a3 = a3) (e4 : w32 a4 = a4) : StepOK N t (lc_29 N K z g gm a1 a2 a3 a4 a5 a6) := by
  have hst := h.ok.stops
  by_cases hc : (0 ≤ a1 ∧ a1 ≤ 8) ∧ ((0 ≤ a2 ∧ a2 ≤ 240) ∧ (0 ≤ a3 ∧ a3 ≤ 240)) ∧ (0 ≤ a4 ∧ a4 ≤ 1)
  · obtain ⟨h1, ⟨h2, h3⟩, h4⟩ := hc
    obtain ⟨w, rfl⟩ := nat_of h1.1
    obtain ⟨m, rfl⟩ := nat_of h2.1
    obtain ⟨hh, rfl⟩ := nat_of h3.1
    obtain ⟨q, hq⟩ := nat_of hst.1
    have hb := mnS_bd (q := q) (p := 16 - q) (m := m) (h := hh) (w := w) (by omega) (by omega) (by omega) (by omega) (by omega)
    have hb2 := mnS_le (q := q) (p := 16 - q) (m := m) (h := hh) (w := w) (by omega) (by omega) (by omega) (by omega) (by omega)
    have hpw := p16 (n := w) (by omega)
    have P8 := x_power_eq hN (b := 16) (n := 8) (by omega) (by omega)
    have Pw := m_power_eq hN (b := 16) (n := w) (by omega)
    have e8 : 16 ^ (8 - w) * 16 ^ w = 16 ^ 8 := by rw [← Nat.pow_add, show 8 - w + w = 8 by omega]
    have hv : partS (16 ^ (8 - w) * mnS q (16 - q) m hh w) (16 ^ 8) a4 = partS (mnS q (16 - q) m hh w) (16 ^ w) a4 := by rw [← e8, partS_mul (p16_pos _)]
    refine o_waits_v (v := partS (16 ^ (8 - w) * mnS q (16 - q) m hh w) (16 ^ 8) a4) (w := partS (mnS q (16 - q) m hh w) (16 ^ w) a4) (g1 := g) (gm1 := sI gm 900 0 0) ?_ ?_ th0 hv (h.val .refl .th h394)
    · unfold x_waits
      rw [x_within_ok (by rw [e1, w32_z]; omega) (by rw [e1, w32_of (by omega) (by omega)]; omega), obind_some]
      dsimp only [thT]
      rw [x_waiting_ok e2 e3 h2 h3, obind_some]
      dsimp only
      rw [x_within_ok (by rw [e4, w32_z]; omega) (by rw [e4, w32_of (by omega) (by omega)]; omega), obind_some]
      dsimp only
      rw [x_meanOf_eq hN h hq rfl (by omega) (by omega) (by omega), obind_some, show (8 : Int) = ((8 : Nat) : Int) from rfl, show (16 : Int) = ((16 : Nat) : Int) from rfl, P8, obind_some, x_part_eq hN (by omega) (by omega) (by omega) (by omega), obind_some]
    · unfold m_waits
      rw [m_within_eq, e1, w32_z, w32_of (by omega) (by omega), if_pos h1, obind_some, if_neg wz1, m_isMinute_eq e2, if_pos h2, obind_some, if_neg wz1, m_isMinute_eq e3, if_pos h3, obind_some, if_neg wz1, m_within_eq, e4, w32_z, w32_of (by omega) (by omega), if_pos h4, obind_some, if_neg wz1]
      unfold m_waits_j45
      rw [m_may_ok th0, obind_some, if_pos wz1, m_meanOf_eq hN h.ok (mrd_th h.mr) hq rfl (by omega) (by omega) (by omega), obind_some, show (16 : Int) = ((16 : Nat) : Int) from rfl, Pw, obind_some, m_least_eq hN (by omega) (by omega) (p16_pos _) (by omega), obind_some]
  · refine o_waits_r1 (w := 0) ?_ ?_ h394 ht h
    · unfold x_waits
      by_cases q1 : 0 ≤ a1 ∧ a1 ≤ 8
      · rw [x_within_ok (by rw [e1, w32_z]; omega) (by rw [e1, w32_of (by omega) (by omega)]; omega), obind_some]
        dsimp only [thT]
        by_cases q2 : (0 ≤ a2 ∧ a2 ≤ 240) ∧ (0 ≤ a3 ∧ a3 ≤ 240)
        · rw [x_waiting_ok e2 e3 q2.1 q2.2, obind_some]
          dsimp only
          rw [x_within_no (by rw [e4, w32_z, w32_of (by omega) (by omega)]; exact fun q3 => hc ⟨q1, q2, q3⟩), obind_some]
        · rw [x_waiting_no e2 e3 q2, obind_some]
      · rw [x_within_no (by rw [e1, w32_z, w32_of (by omega) (by omega)]; exact q1), obind_some]
        rfl
    · have j : m_waits_j44 N (sI gm 900 0 0) a1 a2 a3 a4 = some (0, sA (sI (sI gm 900 0 0) 900 0 1) 1 1 (gA gm 1 1 + 1)) := by
        unfold m_waits_j44 m_waits_j45
        rw [m_may_no1 th0 (by omega), obind_some, if_neg wz0]; rfl
      unfold m_waits
      rw [m_within_eq, e1, w32_z, w32_of (by omega) (by omega), obind_some]
      by_cases q1 : 0 ≤ a1 ∧ a1 ≤ 8
      · rw [if_pos q1, if_neg wz1, m_isMinute_eq e2, obind_some]
        by_cases q2 : 0 ≤ a2 ∧ a2 ≤ 240
        · rw [if_pos q2, if_neg wz1, m_isMinute_eq e3, obind_some]
          by_cases q3 : 0 ≤ a3 ∧ a3 ≤ 240
          · rw [if_pos q3, if_neg wz1, m_within_eq, e4, w32_z, w32_of (by omega) (by omega), if_neg (fun q4 => hc ⟨q1, ⟨q2, q3⟩, q4⟩), obind_some, if_pos w32_z, j]
          · rw [if_neg q3, if_pos w32_z, j]
        · rw [if_neg q2, if_pos w32_z, j]
      · rw [if_neg q1, if_pos w32_z, j]
