set_option maxRecDepth 100000
/-! PLAIN 19: long numbers, powers, parts; nuts -/
variable {N : Nat} {K : Nat → Nat} {t z r : Nat} {g gm g1 gm1 : GS} {a1 a2 a3 a4 a5 a6 v w : Int} {a : Ab} {rd : Rd}
theorem l_div_nat {a b : Nat} (ha : a < 9223372036854775808) (hb : b < 9223372036854775808) : l_div a b = ((a / b : Nat) : Int) := by
  have h1 := Int64.toInt_div (Int64.ofInt a) (Int64.ofInt b)
  rw [show (Int64.ofInt (a : Int)).toInt = a from w64_of (by omega) (by omega), show (Int64.ofInt (b : Int)).toInt = b from w64_of (by omega) (by omega), ← Int.ofNat_tdiv] at h1
  unfold l_div
  rw [h1]
  have : a / b ≤ a := Nat.div_le_self a b
  generalize a / b = q at this
  exact Int.bmod_eq_of_le (by omega) (by omega)
theorem l_rem_nat {a b : Nat} (ha : a < 9223372036854775808) (hb : b < 9223372036854775808) : l_rem a b = ((a % b : Nat) : Int) := by
  have h1 := l_div_nat ha hb
  have h2 : Int64.ofInt (a : Int) / Int64.ofInt (b : Int) = Int64.ofInt ((a / b : Nat) : Int) := by
    rw [← h1]; exact (Int64.ofInt_toInt _).symm
  unfold l_rem
  rw [h2, ← Int64.ofInt_mul, ← Int64.ofInt_sub]
  have h3 := Nat.div_add_mod a b
  have h4 : (a : Int) - ((a / b : Nat) : Int) * b = ((a % b : Nat) : Int) := by
    have h5 : (a : Int) = b * ((a / b : Nat) : Int) + ((a % b : Nat) : Int) := by exact_mod_cast h3.symm
    rw [Int.mul_comm (((a / b : Nat) : Int)) b]
    omega
  rw [h4]
  exact w64_of (by omega) (by have := Nat.mod_le a b; omega)
theorem l_cmp_nat {a b : Nat} (ha : a < 9223372036854775808) (hb : b < 9223372036854775808) : l_cmp a b = if b < a then 1 else if a = b then 0 else -1 := by
  unfold l_cmp
  rw [w64_of (by omega) (by omega), w64_of (by omega) (by omega)]
  by_cases h1 : b < a
  · rw [if_pos (by omega), if_pos h1]
  · rw [if_neg (by omega), if_neg h1]
    by_cases h2 : a = b
    · rw [if_pos (by omega), if_pos h2]
    · rw [if_neg (by omega), if_neg h2]
theorem x_power_eq (hN : 100000000000000000000 ≤ N) {b n : Nat} (hb : b < 2147483648) (hn : n < 1000) : x_power N b n = some ((b ^ n : Nat) : Int) := by
  unfold x_power
  refine loop_up' (fun i => (((b ^ i : Nat) : Int), (i : Int))) n _ rfl (fun i hi => ?_) ?_ (by omega)
  · unfold x_power_b5
    dsimp only
    rw [w32_of (by omega) (by omega), w32_of (by omega) (by omega), if_neg (by omega), w32_of (by omega) (by omega), ← Int.natCast_mul, ← Nat.pow_succ]
    rfl
  · unfold x_power_b5
    dsimp only
    rw [if_pos (by omega)]; rfl
theorem m_power_eq (hN : 100000000000000000000 ≤ N) {b n : Nat} (hn : n < 1000) : m_power N b n = some ((b ^ n : Nat) : Int) := by
  unfold m_power
  refine loop_up' (fun i => (((b ^ i : Nat) : Int), (i : Int))) n _ rfl (fun i hi => ?_) ?_ (by omega)
  · unfold m_power_b5
    dsimp only
    rw [w32_of (by omega) (by omega), w32_of (by omega) (by omega), if_neg (by omega), ← Int.natCast_mul, ← Nat.pow_succ]
    rfl
  · unfold m_power_b5
    dsimp only
    rw [if_pos (by omega)]; rfl
def partS (up low : Nat) (which : Int) : Int := if which = 0 then ((up / Nat.gcd up low : Nat) : Int) else ((low / Nat.gcd up low : Nat) : Int)
theorem gcd_loop {B : Int × Int → Option ((Int × Int) ⊕ Int)} (hN : 100000000000000000000 ≤ N) (hB0 : ∀ a : Nat, B (a, 0) = some (.inr a)) (hB : ∀ a b : Nat, a < 9223372036854775808 → b < 9223372036854775808 → b ≠ 0 → B (a, b) = some (.inl ((b : Int), ((a % b : Nat) : Int)))) {a b : Nat} (ha : a < 9223372036854775808) (hb : b < 9223372036854775808) : loopN B N (a, b) = some ((Nat.gcd b a : Nat) : Int) := by
  refine loop_val (fun s => ∃ c d : Nat, c < 9223372036854775808 ∧ d < 9223372036854775808 ∧ s = ((c : Int), (d : Int)) ∧ Nat.gcd d c = Nat.gcd b a) (fun s => s.2.toNat) (fun s hs => ?_) ⟨a, b, ha, hb, rfl, rfl⟩ (by dsimp only; omega)
  obtain ⟨c, d, h1, h2, rfl, h3⟩ := hs
  by_cases e : d = 0
  · subst e
    right
    rw [← h3, Nat.gcd_zero_left]
    exact hB0 c
  · left
    have hm : c % d < d := Nat.mod_lt _ (by omega)
    refine ⟨_, hB c d h1 h2 e, ⟨d, c % d, h2, by omega, rfl, ?_⟩, by dsimp only; omega⟩
    rw [← h3, Nat.gcd_rec d c]
theorem x_part_eq (hN : 100000000000000000000 ≤ N) {up low : Nat} (hu : up < 9223372036854775808) (hl : low < 9223372036854775808) (h0 : 0 < low) {which : Int} (hw : which = 0 ∨ which = 1) : x_part N up low which = some (partS up low which) := by
  unfold x_part
  have hg : 0 < Nat.gcd up low := Nat.gcd_pos_of_pos_right _ h0
  have hgl : Nat.gcd up low ≤ low := Nat.gcd_le_right _ h0
  have L : loopN (fun s => x_part_b6 N up low which s.1 s.2) N ((low : Int), (up : Int)) = some ((Nat.gcd up low : Nat) : Int) := gcd_loop (B := fun s => x_part_b6 N up low which s.1 s.2) hN (fun c => by
      unfold x_part_b6
      dsimp only
      rw [l_cmp_eq rfl, if_pos (by decide)]) (fun c d h1 h2 h3 => by
      unfold x_part_b6 dvL
      dsimp only
      have := l_cmp_nat (a := d) (b := 0) h2 (by omega)
      rw [show ((0 : Nat) : Int) = 0 from rfl, if_pos (by omega)] at this
      rw [this, if_neg (by decide), w64_of (by omega) (by omega), if_neg (by omega), l_rem_nat h1 h2]) hl hu
  rw [L, obind_some]
  unfold dvL partS
  rw [w64_of (by omega) (by omega)]
  rcases hw with rfl | rfl
  · rw [if_neg wz0, if_neg (by omega), if_pos rfl, l_div_nat hu (by omega)]
  · rw [if_pos wz1, if_neg (by omega), if_neg (by decide), l_div_nat hl (by omega)]
theorem m_least_eq (hN : 100000000000000000000 ≤ N) {up low : Nat} (hu : up < 9223372036854775808) (hl : low < 9223372036854775808) (h0 : 0 < low) {which : Int} (hw : which = 0 ∨ which = 1) : m_least N up low which = some (partS up low which) := by
  unfold m_least
  have hg : 0 < Nat.gcd up low := Nat.gcd_pos_of_pos_right _ h0
  have hgl : Nat.gcd up low ≤ low := Nat.gcd_le_right _ h0
  have L : loopN (fun s => m_least_b6 N up low which s.1 s.2) N ((up : Int), (low : Int)) = some ((Nat.gcd low up : Nat) : Int) := gcd_loop (B := fun s => m_least_b6 N up low which s.1 s.2) hN (fun c => by
      unfold m_least_b6
      dsimp only
      rw [l_cmp_eq rfl, if_pos (by decide)]) (fun c d h1 h2 h3 => by
      unfold m_least_b6 dvL
      dsimp only
      have := l_cmp_nat (a := d) (b := 0) h2 (by omega)
      rw [show ((0 : Nat) : Int) = 0 from rfl, if_pos (by omega)] at this
      rw [this, if_neg (by decide), w64_of (by omega) (by omega), if_neg (by omega), l_rem_nat h1 h2]) hu hl
  rw [L, obind_some, Nat.gcd_comm low up]
  unfold m_least_j41 dvL partS
  rw [w64_of (by omega) (by omega)]
  rcases hw with rfl | rfl
  · rw [if_neg wz0, if_neg (by omega), if_pos rfl, l_div_nat hu (by omega)]
  · rw [if_pos wz1, if_neg (by omega), if_neg (by decide), l_div_nat hl (by omega)]
def easeS (rd : Rd) (u : Nat) (s : Int) : Int := max 0 (min 16 (2 * s - rd.ru u))
theorem easeS_bd (u : Nat) (s : Int) : 0 ≤ easeS rd u s ∧ easeS rd u s ≤ 16 := by unfold easeS; omega
theorem x_loosens_eq (h : Inv N t K z g gm a) {u : Nat} (hu : u < a.rd.U) {s : Int} (hs : 0 ≤ s ∧ s ≤ 18) : x_loosens K g u s = some (easeS a.rd u s) := by
  have hU := h.ok.U
  have hr := h.ok.ru u hu
  unfold x_loosens
  rw [rdR_of h.r12 h.kr, obind_some, rdA_val (h.xr.ru u hu) (by omega) (by omega), obind_some, imin_of (by omega) (by omega) (by omega) (by omega), imax_of (by omega) (by omega) (by omega) (by omega)]
  rfl
theorem m_easeOf_eq (ok : RdOK rd) (h : MRd gm rd) {u : Nat} (hu : u < rd.U) {s : Int} (hs : 0 ≤ s ∧ s ≤ 18) : m_easeOf gm u s = some (easeS rd u s) := by
  have hU := ok.U
  have hr := ok.ru u hu
  unfold m_easeOf easeS
  rw [rdA_val (h.ru u hu) (by omega) (by omega), obind_some, w32_of (by omega) (by omega), w32_of (by omega) (by omega)]
  by_cases q : 0 ≤ 2 * s - rd.ru u
  · rw [if_pos q]
    by_cases q2 : 2 * s - rd.ru u ≤ 16
    · rw [if_pos q2]; congr 1; omega
    · rw [if_neg q2]; congr 1; omega
  · rw [if_neg q]; congr 1; omega
/-- how many of 16 it is stuck by -/
def stkS (rd : Rd) (u : Nat) (s : Int) : Nat := (16 - easeS rd u s).toNat
theorem stkS_eq (u : Nat) (s : Int) : 16 - easeS rd u s = (stkS rd u s : Int) := by
  have := easeS_bd (rd := rd) u s
  unfold stkS
  omega
theorem stkS_le (u : Nat) (s : Int) : stkS rd u s ≤ 16 := by
  have := easeS_bd (rd := rd) u s
  unfold stkS
  omega
theorem m_stuck_eq (hN : 100000000000000000000 ≤ N) (ok : RdOK rd) (h : MRd gm rd) {u n : Nat} (hu : u < rd.U) {s : Int} (hs : 0 ≤ s ∧ s ≤ 18) (hn : n < 100) : m_stuck N gm u n s = some (((stkS rd u s) ^ n : Nat) : Int) := by
  have := stkS_le (rd := rd) u s
  unfold m_stuck
  rw [m_easeOf_eq ok h hu hs, obind_some, stkS_eq, w32_of (by omega) (by omega), m_power_eq hN (by omega), obind_some]
theorem p16 {n : Nat} (h : n ≤ 8) : 16 ^ n ≤ 4294967296 := Nat.pow_le_pow_right (n := 16) (by omega) h
theorem p16_pos (n : Nat) : 0 < 16 ^ n := Nat.pow_pos (by omega)
theorem stk_pow (u : Nat) (s : Int) (n : Nat) : (stkS rd u s) ^ n ≤ 16 ^ n := Nat.pow_le_pow_left (stkS_le u s) n
theorem x_strength_ok {s : Int} (e : w32 s = s) (h : 0 ≤ s ∧ s ≤ 18) : x_strength g s = some (.inr g) := by
  unfold x_strength
  rw [x_within_ok (by rw [e, w32_z]; omega) (by rw [e, w32_of (by omega) (by omega)]; omega), obind_some]
  rfl
theorem x_strength_no {s : Int} (e : w32 s = s) (h : ¬(0 ≤ s ∧ s ≤ 18)) : x_strength g s = some (.inl (1, sA g 12 1 (gA g 12 1 + 1))) := by
  unfold x_strength
  rw [x_within_no (by rw [e, w32_z, w32_of (by omega) (by omega)]; exact h), obind_some]
  rfl
theorem x_nut_ok {u : Nat} (h : Inv N t K z g gm a) (hu : u < a.rd.U) : x_isThere g u (gI g 817 a.r) = some (.inr g) := by
  have hU := h.ok.U
  exact x_isThere_ok (by rw [w32_of (by omega) (by omega)]; omega) (by rw [h.xr.U, w32_of (by omega) (by omega), w32_of (by omega) (by omega)]; omega)
theorem x_nut_no {u : Int} (h : Inv N t K z g gm a) (e : w32 u = u) (hu : ¬(0 ≤ u ∧ u < a.rd.U)) : x_isThere g u (gI g 817 a.r) = some (.inl (0, sA g 12 0 (gA g 12 0 + 1))) := by
  have hU := h.ok.U
  exact x_isThere_no (by rw [e, h.xr.U, w32_of (a := (a.rd.U : Int)) (by omega) (by omega)]; exact hu)
theorem s_tries (hN : 100000000000000000000 ≤ N) (h : Inv N t K z g gm a) (h394 : 394 ≤ z) (ht : t < 64) (e1 : w32 a1 = a1) (e2 : w32 a2 = a2) (e3 : w32 a3 = a3) (e4 : w32 a4 = a4) : StepOK N t (lc_26 N K z g gm a1 a2 a3 a4 a5 a6) := by
  by_cases hc : 0 ≤ a1 ∧ a1 < a.rd.U
  · obtain ⟨u, rfl⟩ := nat_of hc.1
    have hu : u < a.rd.U := by omega
    by_cases hd : (0 ≤ a2 ∧ a2 ≤ 7) ∧ (0 ≤ a3 ∧ a3 ≤ 18) ∧ (0 ≤ a4 ∧ a4 ≤ 1)
    · obtain ⟨h2, h3, h4⟩ := hd
      obtain ⟨n, rfl⟩ := nat_of h2.1
      have hp := p16 (n := n) (by omega)
      have hp0 := p16_pos n
      have hst := stk_pow (rd := a.rd) u a3 n
      have hsl := stkS_le (rd := a.rd) u a3
      have hdf : ((16 ^ n : Nat) : Int) - (((stkS a.rd u a3) ^ n : Nat) : Int) = ((16 ^ n - (stkS a.rd u a3) ^ n : Nat) : Int) := by
        generalize 16 ^ n = q at hst ⊢
        generalize (stkS a.rd u a3) ^ n = q2 at hst ⊢
        omega
      have hlt : 16 ^ n - (stkS a.rd u a3) ^ n < 9223372036854775808 := by
        generalize 16 ^ n = q at hp ⊢
        generalize (stkS a.rd u a3) ^ n = q2
        omega
      refine o_tries_v (v := partS (16 ^ n - (stkS a.rd u a3) ^ n) (16 ^ n) a4) (w := partS (16 ^ n - (stkS a.rd u a3) ^ n) (16 ^ n) a4) (g1 := g) (gm1 := sI gm 900 0 0) ?_ ?_ th0 rfl (h.val .refl .th h394)
      · have P1 := x_power_eq hN (b := 16) (n := n) (by omega) (by omega)
        have P2 := x_power_eq hN (b := stkS a.rd u a3) (n := n) (by omega) (by omega)
        unfold x_tries
        rw [rdR_of h.r12 h.kr, obind_some, x_nut_ok h hu, obind_some]
        dsimp only [thT]
        rw [x_within_ok (by rw [e2, w32_z]; omega) (by rw [e2, w32_of (by omega) (by omega)]; omega), obind_some]
        dsimp only
        rw [x_strength_ok e3 h3, obind_some]
        dsimp only
        rw [x_within_ok (by rw [e4, w32_z]; omega) (by rw [e4, w32_of (by omega) (by omega)]; omega), obind_some]
        dsimp only
        rw [show (16 : Int) = ((16 : Nat) : Int) from rfl, P1, obind_some, x_loosens_eq h hu h3, obind_some, show ((16 : Nat) : Int) - easeS a.rd u a3 = (stkS a.rd u a3 : Int) from stkS_eq u a3, P2, obind_some, obind_some, hdf, x_part_eq hN hlt (by omega) hp0 (by omega), obind_some]
      · unfold m_tries
        rw [m_isNut_ok h hu, obind_some, if_neg wz1, m_within_eq, e2, w32_z, w32_of (by omega) (by omega), if_pos h2, obind_some, if_neg wz1, m_within_eq, e3, w32_z, w32_of (by omega) (by omega), if_pos h3, obind_some, if_neg wz1, m_within_eq, e4, w32_z, w32_of (by omega) (by omega), if_pos h4, obind_some, if_neg wz1]
        unfold m_tries_j50
        have P1 := m_power_eq hN (b := 16) (n := n) (by omega)
        rw [m_may_ok th0, obind_some, if_pos wz1, show (16 : Int) = ((16 : Nat) : Int) from rfl, P1, obind_some, m_stuck_eq hN h.ok (mrd_th h.mr) hu h3 (by omega), obind_some, obind_some, hdf, m_least_eq hN hlt (by omega) hp0 (by omega), obind_some]
    · refine o_tries_r1 (w := 0) ?_ ?_ h394 ht h
      · unfold x_tries
        rw [rdR_of h.r12 h.kr, obind_some, x_nut_ok h hu, obind_some]
        dsimp only [thT]
        by_cases q2 : 0 ≤ a2 ∧ a2 ≤ 7
        · rw [x_within_ok (by rw [e2, w32_z]; omega) (by rw [e2, w32_of (by omega) (by omega)]; omega), obind_some]
          dsimp only
          by_cases q3 : 0 ≤ a3 ∧ a3 ≤ 18
          · rw [x_strength_ok e3 q3, obind_some]
            dsimp only
            rw [x_within_no (by rw [e4, w32_z, w32_of (by omega) (by omega)]; exact fun q4 => hd ⟨q2, q3, q4⟩), obind_some]
          · rw [x_strength_no e3 q3, obind_some]
        · rw [x_within_no (by rw [e2, w32_z, w32_of (by omega) (by omega)]; exact q2), obind_some]
      · have j : m_tries_j49 N (sI gm 900 0 0) u a2 a3 a4 = some (0, sA (sI (sI gm 900 0 0) 900 0 2) 1 1 (gA gm 1 1 + 1)) := by
          unfold m_tries_j49 m_tries_j50 m_tries_j58
          rw [m_may_no1 th0 (by omega), obind_some, if_neg wz0]; rfl
        unfold m_tries
        rw [m_isNut_ok h hu, obind_some, if_neg wz1, m_within_eq, e2, w32_z, w32_of (by omega) (by omega), obind_some]
        by_cases q2 : 0 ≤ a2 ∧ a2 ≤ 7
        · rw [if_pos q2, if_neg wz1, m_within_eq, e3, w32_z, w32_of (by omega) (by omega), obind_some]
          by_cases q3 : 0 ≤ a3 ∧ a3 ≤ 18
          · rw [if_pos q3, if_neg wz1, m_within_eq, e4, w32_z, w32_of (by omega) (by omega), if_neg (fun q4 => hd ⟨q2, q3, q4⟩), obind_some, if_pos w32_z, j]
          · rw [if_neg q3, if_pos w32_z, j]
        · rw [if_neg q2, if_pos w32_z, j]
  · refine o_tries_r0 (w := 0) ?_ ?_ h394 ht h
    · unfold x_tries
      rw [rdR_of h.r12 h.kr, obind_some, x_nut_no h e1 hc, obind_some]
      rfl
    · unfold m_tries m_tries_j58
      rw [m_isNut_no h e1 hc, obind_some, if_pos w32_z]
