set_option maxRecDepth 100000
/-! PLAIN 16: chains; boards, yards -/
variable {N : Nat} {K : Nat → Nat} {t z r : Nat} {g gm g1 gm1 : GS} {a1 a2 a3 a4 a5 a6 v w : Int} {a : Ab} {rd : Rd}
def chF (rd : Rd) : Nat → Nat → Int
  | 0, _ => 0
  | f + 1, d => mxN d (fun e => if (rd.ne d).testBit e then chF rd f e else 0) + rd.mi d
theorem chF_bd (ok : RdOK rd) : ∀ f d, d < rd.D → 0 ≤ chF rd f d ∧ chF rd f d ≤ 30 * f
  | 0, d, h => by simp [chF]
  | f + 1, d, h => by
    have h1 := ok.mi d h
    have h2 := mxN_bd (M := 30 * f) (by omega) (n := d) (f := fun e => if (rd.ne d).testBit e then chF rd f e else 0) fun k hk => by
      have := chF_bd ok f k (by omega)
      split <;> omega
    rw [chF]
    omega
theorem mxN_congr {f f' : Nat → Int} : ∀ {n : Nat}, (∀ k, k < n → f k = f' k) → mxN n f = mxN n f'
  | 0, _ => rfl
  | n + 1, h => by rw [mxN, mxN, mxN_congr fun k hk => h k (by omega), h n (by omega)]
theorem chF_st : ∀ f f' d, d < f → d < f' → chF rd f d = chF rd f' d
  | 0, f', d, h, _ => by omega
  | f + 1, 0, d, _, h => by omega
  | f + 1, f' + 1, d, h, h' => by
    rw [chF, chF, mxN_congr (f' := fun e => if (rd.ne d).testBit e then chF rd f' e else 0) fun k hk => by
      show (if (rd.ne d).testBit k = true then chF rd f k else 0) = (if (rd.ne d).testBit k = true then chF rd f' k else 0)
      rw [chF_st f f' k (by omega) (by omega)]]
theorem xRoad_chain_eq (hN : 100000000000000000000 ≤ N) (ok : RdOK rd) (h : XRd r g rd) : ∀ f d, f ≤ 16 → d < f → d < rd.D → xRoad_chain_R N r f g d = some (chF rd f d)
  | 0, d, _, hd, _ => by omega
  | f + 1, d, hf, hd, hD => by
    have hD12 := ok.D
    have hn := ne_lt ok hD
    have hmi := ok.mi d hD
    have hbd : ∀ i, i ≤ d → 0 ≤ mxN i (fun e => if (rd.ne d).testBit e then chF rd f e else 0) ∧ mxN i (fun e => if (rd.ne d).testBit e then chF rd f e else 0) ≤ 480 := fun i hi => mxN_bd (by omega) fun k hk => by
      have := chF_bd ok f k (by omega)
      split <;> omega
    show xRoad_chain_F N (xRoad_chain_R N r f) r g d = _
    unfold xRoad_chain_F
    have L : loopN (fun s => xRoad_chain_F_b4 N (xRoad_chain_R N r f) r g d s.1 s.2) N (0, 0) = some (mxN d (fun e => if (rd.ne d).testBit e then chF rd f e else 0)) := loop_up' (fun i => (mxN i (fun e => if (rd.ne d).testBit e then chF rd f e else 0), (i : Int))) d _ rfl (fun i hi => by
      have h1 := hbd i (by omega)
      have h2 := chF_bd ok f i (by omega)
      cases e2 : (rd.ne d).testBit i
      · simp (disch := omega) [w32_of, bit_at, rdA_nat, wrA_nat, obind_some, outR_eq, xRoad_chain_F_b4, h.ne d hD, e2, show ¬((d : Int) ≤ i) by omega, mxN]
        omega
      · have ih := xRoad_chain_eq hN ok h f i (by omega) (by omega) (by omega)
        simp (disch := omega) [w32_of, bit_at, rdA_nat, wrA_nat, obind_some, outR_eq, xRoad_chain_F_b4, h.ne d hD, e2, show ¬((d : Int) ≤ i) by omega, mxN, ih, imax_of]) (by simp (disch := omega) [w32_of, bit_at, rdA_nat, wrA_nat, obind_some, outR_eq, xRoad_chain_F_b4]) (by omega)
    rw [L, obind_some, rdA_val (h.mi d hD) (by omega) (by omega), obind_some, chF]
theorem m_chain_loop (hN : 100000000000000000000 ≤ N) (ok : RdOK rd) (h : MRd gm rd) {d : Nat} (hd : d < rd.D) : ∃ g', loopN (fun s => m_chain_b18 N d s.1 s.2) N (gm, 0) = some g' ∧ gA g' 36 d = chF rd 16 d ∧ (∀ f q, gI g' f q = gI gm f q) ∧ ∀ q k, q ≠ 36 → gA g' q k = gA gm q k := by
  have hD12 := ok.D
  refine loop_ex (fun i s => s.2 = (i : Int) ∧ (∀ f q, gI s.1 f q = gI gm f q) ∧ (∀ q k, q ≠ 36 → gA s.1 q k = gA gm q k) ∧ ∀ j, j < i → gA s.1 36 j = chF rd 16 j) (d + 1) _ (fun i s hi hs => ?_) (fun s hs => ?_) ⟨rfl, fun _ _ => rfl, fun _ _ _ => rfl, fun j hj => by omega⟩ (by omega)
  · obtain ⟨g1, j⟩ := s
    obtain ⟨rfl, q1, q2, q3⟩ := hs
    dsimp only at q1 q2 q3
    have hiD : i < rd.D := by omega
    have hn := ne_lt ok hiD
    have hmi := ok.mi i hiD
    have hbd : ∀ j, j ≤ i → 0 ≤ mxN j (fun e => if (rd.ne i).testBit e then chF rd 16 e else 0) ∧ mxN j (fun e => if (rd.ne i).testBit e then chF rd 16 e else 0) ≤ 480 := fun j hj => mxN_bd (by omega) fun k hk => by
      have := chF_bd ok 16 k (by omega)
      split <;> omega
    have X1 : MRd g1 rd := h.mono (fun f _ _ => q1 f 0) fun q k _ _ _ _ => q2 q k (by omega)
    have r1 : rdA g1 10 60 (5 * (i : Int) + 4) = some ((rd.ne i : Nat) : Int) := rdA_atv (X1.ne i hiD) (by omega) (by omega) (by omega)
    refine ⟨(sA g1 36 i (chF rd 16 i), ((i + 1 : Nat) : Int)), ?_, rfl, q1, fun q k hq => by rw [gA_sA, if_neg (by omega)]; exact q2 q k hq, fun j hj => ?_⟩
    · unfold m_chain_b18
      dsimp only
      rw [w32_of (by omega) (by omega), w32_of (by omega) (by omega), if_neg (by omega)]
      have L : loopN (fun s => m_chain_b28 N g1 d i s.1 s.2) N (0, 0) = some (mxN i (fun e => if (rd.ne i).testBit e then chF rd 16 e else 0)) := loop_up' (fun j => (mxN j (fun e => if (rd.ne i).testBit e then chF rd 16 e else 0), (j : Int))) i _ rfl (fun j hj => by
        have h1 := hbd j (by omega)
        have h2 := chF_bd ok 16 j (by omega)
        have h3 := q3 j hj
        cases e2 : (rd.ne i).testBit j
        · simp (disch := omega) [w32_of, bit_at, rdA_nat, wrA_nat, obind_some, outR_eq, m_chain_b28, m_chain_j74, m_chain_j75, r1, e2, show ¬((i : Int) ≤ j) by omega, mxN]
          omega
        · by_cases e3 : chF rd 16 j ≤ mxN j (fun e => if (rd.ne i).testBit e then chF rd 16 e else 0)
          · simp (disch := omega) [w32_of, bit_at, rdA_nat, wrA_nat, obind_some, outR_eq, m_chain_b28, m_chain_j74, m_chain_j75, r1, e2, show ¬((i : Int) ≤ j) by omega, mxN, h3, e3]
            omega
          · simp (disch := omega) [w32_of, bit_at, rdA_nat, wrA_nat, obind_some, outR_eq, m_chain_b28, m_chain_j74, m_chain_j75, r1, e2, show ¬((i : Int) ≤ j) by omega, mxN, h3, e3]
            omega) (by simp (disch := omega) [w32_of, bit_at, rdA_nat, wrA_nat, obind_some, outR_eq, m_chain_b28]) (by omega)
      rw [L, obind_some, rdA_atv (X1.mi i hiD) (by omega) (by omega) (by omega), obind_some, wrA_nat (by omega) (by omega), obind_some]
      have e : rd.mi i + mxN i (fun e => if (rd.ne i).testBit e then chF rd 16 e else 0) = chF rd 16 i := by
        rw [show chF rd 16 i = mxN i (fun e => if (rd.ne i).testBit e then chF rd 15 e else 0) + rd.mi i from rfl, mxN_congr (f' := fun e => if (rd.ne i).testBit e then chF rd 15 e else 0) fun k hk => by
          show (if (rd.ne i).testBit k = true then chF rd 16 k else 0) = (if (rd.ne i).testBit k = true then chF rd 15 k else 0)
          rw [chF_st 16 15 k (by omega) (by omega)]]
        omega
      rw [e]
      rfl
    · by_cases e : j = i
      · simp [gA_sA, e]
      · rw [gA_sA, if_neg (by omega)]; exact q3 j (by omega)
  · obtain ⟨g1, j⟩ := s
    obtain ⟨rfl, q1, q2, q3⟩ := hs
    refine ⟨g1, ?_, q3 d (by omega), q1, q2⟩
    unfold m_chain_b18
    dsimp only
    rw [w32_of (by omega) (by omega), w32_of (by omega) (by omega), if_pos (by omega)]
theorem s_chain (hN : 100000000000000000000 ≤ N) (h : Inv N t K z g gm a) (h394 : 394 ≤ z) (ht : t < 64) (e1 : w32 a1 = a1) : StepOK N t (lc_20 N K z g gm a1 a2 a3 a4 a5 a6) := by
  have hD := h.ok.D
  by_cases hc : 0 ≤ a1 ∧ a1 < a.rd.D
  · obtain ⟨d, rfl⟩ := nat_of hc.1
    have hd : d < a.rd.D := by omega
    obtain ⟨g', m1, m2, m3, m4⟩ := m_chain_loop hN h.ok (mrd_th h.mr) hd
    refine o_chain_v (v := chF a.rd 16 d) (w := chF a.rd 16 d) (g1 := g) (gm1 := g') ?_ ?_ (by rw [m3]; exact th0) rfl (h.val .refl ((MSame.th).trans ⟨⟨fun f _ => m3 f 0, fun q k hq => m4 q k (by omega)⟩, fun k => m4 _ _ (by omega)⟩) h394)
    · unfold x_chain
      rw [x_deedOf_ok h hd, obind_some]
      dsimp only [thT]
      rw [rdR_of h.r12 h.kr, obind_some]
      unfold xRoad_chain
      rw [xRoad_chain_eq hN h.ok h.xr 16 d (by omega) (by omega) hd, obind_some]
    · unfold m_chain
      rw [m_isDeed_ok h hd, obind_some, if_pos wz1, m1, obind_some, rdA_val m2 (by omega) (by omega), obind_some]
  · refine o_chain_r0 (w := 0) ?_ ?_ h394 ht h
    · unfold x_chain
      rw [x_deedOf_no h e1 hc]
      rfl
    · unfold m_chain
      rw [m_isDeed_no h e1 hc, obind_some, if_neg wz0]
def brS (rd : Rd) (w : Nat) : Int := sumN rd.B fun b => if w.testBit b then rd.br b else 0
theorem brS_bd (ok : RdOK rd) (w i : Nat) (hi : i ≤ rd.B) : 0 ≤ sumN i (fun b => if w.testBit b then rd.br b else 0) ∧ sumN i (fun b => if w.testBit b then rd.br b else 0) ≤ 54 := by
  have h := sumN_bd (n := i) (b := 9) (f := fun b => if w.testBit b then rd.br b else 0) fun k hk => by
    have := ok.br k (by omega)
    split <;> omega
  have := ok.B
  omega
def ldS (rd : Rd) (w : Nat) : Nat := rd.load.toNat / (1 + brS rd w).toNat
theorem ldS_le (ok : RdOK rd) (w : Nat) : ldS rd w ≤ 99 := by
  have h1 := ok.load
  have h3 : ldS rd w ≤ rd.load.toNat := Nat.div_le_self _ _
  omega
def eachS (rd : Rd) (y w : Nat) : Int := max 0 ((ldS rd w : Int) - rd.be y)
theorem eachS_bd (ok : RdOK rd) {y : Nat} (hy : y < 60) (w : Nat) : 0 ≤ eachS rd y w ∧ eachS rd y w ≤ 99 := by
  have h2 := ok.be y hy
  have h3 := ldS_le ok w
  unfold eachS
  omega
theorem div_load (ok : RdOK rd) (w : Nat) : i_div rd.load (1 + brS rd w) = (ldS rd w : Int) := by
  have h1 := ok.load
  have h2 : 0 ≤ brS rd w ∧ brS rd w ≤ 54 := brS_bd ok w rd.B (Nat.le_refl _)
  have := i_div_nat (a := rd.load.toNat) (b := (1 + brS rd w).toNat) (by omega) (by omega)
  rw [Int.toNat_of_nonneg (by omega), Int.toNat_of_nonneg (by omega)] at this
  exact this
theorem xRoad_sinks_eq (hN : 100000000000000000000 ≤ N) (ok : RdOK rd) (h : XRd r g rd) {y w m : Nat} (hy : y < 60) (hw : w < 64) (hm : m ≤ 240) : xRoad_sinks N r g y w m = some (m * eachS rd y w) := by
  have hB := ok.B
  have hb := brS_bd ok w rd.B (Nat.le_refl _)
  have h3 := ok.load
  have h4 := ok.be y hy
  unfold xRoad_sinks
  have L : loopN (fun s => xRoad_sinks_b6 N r g y w m s.1 s.2) N (1, 0) = some (1 + brS rd w) := loop_up' (fun i => (1 + sumN i (fun b => if w.testBit b then rd.br b else 0), (i : Int))) rd.B _ (by simp [sumN]) (fun i hi => by
    have h1 := brS_bd ok w i (by omega)
    have h2 := ok.br i hi
    cases e2 : w.testBit i
    · simp (disch := omega) [w32_of, bit_at, rdA_nat, wrA_nat, obind_some, outR_eq, xRoad_sinks_b6, h.B, e2, show ¬((rd.B : Int) ≤ i) by omega, sumN]
    · simp (disch := omega) [w32_of, bit_at, rdA_nat, wrA_nat, obind_some, outR_eq, xRoad_sinks_b6, h.B, e2, show ¬((rd.B : Int) ≤ i) by omega, sumN, h.br i hi]
      omega) (by simp (disch := omega) [w32_of, bit_at, rdA_nat, wrA_nat, obind_some, outR_eq, xRoad_sinks_b6, h.B, brS]) (by omega)
  rw [L, obind_some]
  have hb' : 0 ≤ brS rd w ∧ brS rd w ≤ 54 := hb
  have hd := div_load ok w
  have hle := ldS_le ok w
  unfold dvI
  rw [if_neg (by rw [w32_of (by omega) (by omega)]; omega), rdA_val (h.be y hy) (by omega) (by omega), obind_some, h.load, hd, imax_of (by omega) (by omega) (by omega) (by omega)]
  rfl
theorem m_sinkOf_eq (hN : 100000000000000000000 ≤ N) (ok : RdOK rd) (h : MRd gm rd) {y w m : Nat} (hy : y < 60) (hw : w < 64) (hm : m ≤ 240) : m_sinkOf N gm y w m = some (m * eachS rd y w) := by
  have hB := ok.B
  have hb := brS_bd ok w rd.B (Nat.le_refl _)
  have h3 := ok.load
  have h4 := ok.be y hy
  have hb' : 0 ≤ brS rd w ∧ brS rd w ≤ 54 := hb
  have hd := div_load ok w
  have hle := ldS_le ok w
  unfold m_sinkOf m_broad
  have L : loopN (fun s => m_broad_b4 N gm w s.1 s.2) N (1, 0) = some (1 + brS rd w) := loop_up' (fun i => (1 + sumN i (fun b => if w.testBit b then rd.br b else 0), (i : Int))) rd.B _ (by simp [sumN]) (fun i hi => by
    have h1 := brS_bd ok w i (by omega)
    have h2 := ok.br i hi
    cases e2 : w.testBit i
    · simp (disch := omega) [w32_of, bit_at, rdA_nat, wrA_nat, obind_some, outR_eq, m_broad_b4, h.B, e2, show ¬((rd.B : Int) ≤ i) by omega, sumN, h.br i hi]
    · simp (disch := omega) [w32_of, bit_at, rdA_nat, wrA_nat, obind_some, outR_eq, m_broad_b4, h.B, e2, show ¬((rd.B : Int) ≤ i) by omega, sumN, h.br i hi]
      omega) (by simp (disch := omega) [w32_of, bit_at, rdA_nat, wrA_nat, obind_some, outR_eq, m_broad_b4, h.B, brS]) (by omega)
  rw [rdA_atv (i := 0) (k := 0) h.load rfl (by omega) (by omega), obind_some, L, obind_some]
  unfold dvI eachS
  rw [if_neg (by rw [w32_of (by omega) (by omega)]; omega), rdA_val (h.be y hy) (by omega) (by omega), obind_some, hd, w32_of (by omega) (by omega)]
  by_cases e : ((ldS rd w : Int) - rd.be y) ≤ 0
  · rw [if_pos e, Int.max_eq_left e, Int.mul_zero]
  · rw [if_neg e, Int.max_eq_right (by omega), Int.mul_comm]
