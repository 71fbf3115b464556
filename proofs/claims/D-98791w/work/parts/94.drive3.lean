set_option maxRecDepth 100000
/-! PLAIN 35: drive, pumps -/
variable {N : Nat} {K K' : Nat → Nat} {t t' z z' r o : Nat} {g gm g1 gm1 : GS} {a1 a2 a3 a4 a5 a6 v w : Int} {a : Ab} {rd : Rd} {p : Pl}
theorem x_miles (hN : 100000000000000000000 ≤ N) {n each : Nat} (he2 : 1 ≤ each ∧ each ≤ 9) (hn : n ≤ 30) : ∃ G, xMiles_lays N g n each = some G ∧ (∀ f q, gI G f q = gI g f q) ∧ (∀ b k, b < 79 ∨ 82 < b → gA G b k = gA g b k) ∧ ∀ q, q < 100 → gA G 79 q = ((dvS n each n q / 1000 : Nat) : Int) ∧ gA G 80 q = ((dvS n each n q % 1000 : Nat) : Int) := by
  unfold xMiles_lays
  obtain ⟨g1, h1, h2, h3, h4⟩ := loop_ex (N := N) (B := fun s => xMiles_lays_b2 N n each s.1 s.2) (s := (g, 0)) (fun i s => s.2 = (i : Int) ∧ (∀ f q, gI s.1 f q = gI g f q) ∧ (∀ b k, b < 79 ∨ 82 < b → gA s.1 b k = gA g b k) ∧ ∀ q, q < i → gA s.1 79 q = 0 ∧ gA s.1 80 q = 0) 100 (fun g1 => (∀ f q, gI g1 f q = gI g f q) ∧ (∀ b k, b < 79 ∨ 82 < b → gA g1 b k = gA g b k) ∧ ∀ q, q < 100 → gA g1 79 q = 0 ∧ gA g1 80 q = 0) (fun i s hi hs => by
    obtain ⟨g2, j⟩ := s
    obtain ⟨rfl, q1, q2, q3⟩ := hs
    refine ⟨(sA (sA g2 79 i 0) 80 i 0, ((i + 1 : Nat) : Int)), ?_, rfl, q1, fun b k hb => by rw [gA_sA, if_neg (by omega), gA_sA, if_neg (by omega)]; exact q2 b k hb, fun q hq => ?_⟩
    · unfold xMiles_lays_b2
      dsimp only
      rw [w32_of (by omega) (by omega), w32_of (by omega) (by omega), if_neg (by omega), wrA_nat hi (by omega), obind_some, wrA_nat hi (by omega), obind_some]; rfl
    · by_cases e : q = i
      · simp [gA_sA, e]
      · simp [gA_sA, e]; exact q3 q (by omega)) (fun s hs => by
    obtain ⟨g2, j⟩ := s
    obtain ⟨rfl, q1, q2, q3⟩ := hs
    refine ⟨g2, ?_, q1, q2, q3⟩
    unfold xMiles_lays_b2
    dsimp only
    rw [if_pos (by decide)]) ⟨rfl, fun _ _ => rfl, fun _ _ _ => rfl, fun q hq => by omega⟩ (by omega)
  rw [h1, obind_some]
  refine loop_ex (N := N) (B := fun s => xMiles_lays_b30 N each s.1 s.2) (s := (g1, (n : Int))) (fun i s => s.2 = ((n - i : Nat) : Int) ∧ (∀ f q, gI s.1 f q = gI g f q) ∧ (∀ b k, b < 79 ∨ 82 < b → gA s.1 b k = gA g b k) ∧ ∀ q, q < 100 → gA s.1 79 q = ((dvS n each i q / 1000 : Nat) : Int) ∧ gA s.1 80 q = ((dvS n each i q % 1000 : Nat) : Int)) n _ (fun i s hi hs => ?_) (fun s hs => ?_) ⟨by simp, h2, h3, fun q hq => by rw [(h4 q hq).1, (h4 q hq).2]; simp [dvS]⟩ (by omega)
  · obtain ⟨g2, j⟩ := s
    obtain ⟨rfl, q1, q2, q3⟩ := hs
    dsimp only at q1 q2 q3
    have hcb := dvS_bd n each i (by omega)
    have hrem := i_rem_nat (a := n - i) (b := each) (by omega) (by omega)
    have hlt : (n - i) % each < each := Nat.mod_lt _ (by omega)
    obtain ⟨g3, w1, w2, w3, w4, w5⟩ := loop_ex (N := N) (B := fun s => xMiles_lays_b38 N each ((n - i : Nat) : Int) s.1 s.2) (s := (g2, 99)) (fun m s => s.2 = 99 - (m : Int) ∧ (∀ f q, gI s.1 f q = gI g2 f q) ∧ (∀ b k, b < 81 ∨ 82 < b → gA s.1 b k = gA g2 b k) ∧ (∀ q, q < 100 → 100 ≤ q + m → gA s.1 81 q = ((dvS n each (i + 1) q / 1000 : Nat) : Int) ∧ gA s.1 82 q = ((dvS n each (i + 1) q % 1000 : Nat) : Int))) 100 (fun g3 => (∀ f q, gI g3 f q = gI g2 f q) ∧ (∀ b k, b < 81 ∨ 82 < b → gA g3 b k = gA g2 b k) ∧ (∀ q, q < 100 → gA g3 81 q = ((dvS n each (i + 1) q / 1000 : Nat) : Int)) ∧ ∀ q, q < 100 → gA g3 82 q = ((dvS n each (i + 1) q % 1000 : Nat) : Int)) (fun m s hm hs => by
      obtain ⟨g3, j⟩ := s
      obtain ⟨rfl, u1, u2, u3⟩ := hs
      dsimp only at u1 u2 u3
      have hp : 99 - m < 100 := by omega
      have ep : (99 : Int) - (m : Int) = ((99 - m : Nat) : Int) := by omega
      have L := x_ways (g := g3) (p := 99 - m) (c := dvS n each i) (i := i) (fl := flS n each i) hN (fun q hq => by rw [u2 _ _ (by omega)]; exact (q3 q hq).1) (fun q hq => by rw [u2 _ _ (by omega)]; exact (q3 q hq).2) hcb (by omega) hp
      have L2 : ∀ fv : Int, fv = (if flS n each i then 1 else 0) → xMiles_lays_j57 N g3 each ((n - i : Nat) : Int) ((99 - m : Nat) : Int) fv ((99 - m : Nat) : Int) = some (.inl (sA (sA g3 81 (99 - m) ((dvS n each (i + 1) (99 - m) / 1000 : Nat) : Int)) 82 (99 - m) ((dvS n each (i + 1) (99 - m) % 1000 : Nat) : Int), 99 - ((m + 1 : Nat) : Int))) := by
        intro fv hf
        unfold xMiles_lays_j57
        rw [hf, L, obind_some, show ((99 - m : Nat) : Int) + (-1) = 99 - ((m + 1 : Nat) : Int) by omega]
        rfl
      refine ⟨(sA (sA g3 81 (99 - m) ((dvS n each (i + 1) (99 - m) / 1000 : Nat) : Int)) 82 (99 - m) ((dvS n each (i + 1) (99 - m) % 1000 : Nat) : Int), 99 - ((m + 1 : Nat) : Int)), ?_, rfl, fun f q => ?_, fun b k hb => ?_, fun q hq h100 => ?_⟩
      · unfold xMiles_lays_b38 dvI
        dsimp only
        rw [ep, w32_of (by omega) (by omega), if_neg (by omega), w32_of (by omega) (by omega), if_neg (by omega), hrem, w32_of (by omega) (by omega)]
        by_cases q : (n - i) % each = 0
        · rw [if_neg (by omega)]
          exact L2 1 (by unfold flS; rw [decide_eq_true q]; rfl)
        · rw [if_pos (by omega)]
          exact L2 0 (by unfold flS; rw [decide_eq_false q]; rfl)
      · exact u1 f q
      · rw [gA_sA, if_neg (by omega), gA_sA, if_neg (by omega)]; exact u2 b k hb
      · by_cases e : q = 99 - m
        · simp [gA_sA, e]
        · simp [gA_sA, e]; exact u3 q hq (by omega)) (fun s hs => by
      obtain ⟨g3, j⟩ := s
      obtain ⟨rfl, u1, u2, u3⟩ := hs
      refine ⟨g3, ?_, u1, u2, fun q hq => (u3 q hq (by omega)).1, fun q hq => (u3 q hq (by omega)).2⟩
      unfold xMiles_lays_b38
      dsimp only
      rw [if_pos (by decide)]) ⟨rfl, fun _ _ => rfl, fun _ _ _ => rfl, fun q hq h => by omega⟩ (by omega)
    refine ⟨(cpA (cpA g3 81 79 100) 82 80 100, ((n - (i + 1) : Nat) : Int)), ?_, rfl, fun f q => ?_, fun b k hb => ?_, fun q hq => ?_⟩
    · unfold xMiles_lays_b30
      dsimp only
      rw [w32_of (by omega) (by omega), if_neg (by omega), w1, obind_some, show ((n - i : Nat) : Int) + (-1) = ((n - (i + 1) : Nat) : Int) by omega]
    · rw [gI_cpA, gI_cpA, w2]; exact q1 f q
    · rw [gA_cpA, if_neg (by omega), gA_cpA, if_neg (by omega), w3 _ _ (by omega)]; exact q2 b k hb
    · constructor
      · rw [gA_cpA, if_neg (by omega), gA_cpA, if_pos ⟨rfl, hq⟩]; exact w4 q hq
      · rw [gA_cpA, if_pos ⟨rfl, hq⟩, gA_cpA, if_neg (by omega)]; exact w5 q hq
  · obtain ⟨g2, j⟩ := s
    obtain ⟨rfl, q1, q2, q3⟩ := hs
    refine ⟨g2, ?_, q1, q2, q3⟩
    unfold xMiles_lays_b30
    dsimp only
    rw [w32_of (by omega) (by omega), if_pos (by omega)]; rfl
theorem m_isDrive_eq (e1 : w32 a1 = a1) : m_isDrive (sI gm 900 0 0) a1 = some (if 1 ≤ a1 ∧ a1 ≤ 30 then (1, sI gm 900 0 0) else (0, sA (sI (sI gm 900 0 0) 900 0 1) 1 1 (gA gm 1 1 + 1))) := by
  unfold m_isDrive
  rw [m_within_eq, e1, w32_of (a := 1) (by omega) (by omega), w32_of (a := 30) (by omega) (by omega)]
  by_cases q : 1 ≤ a1 ∧ a1 ≤ 30
  · rw [if_pos q, if_pos q, obind_some, m_may_ok th0]; rfl
  · rw [if_neg q, if_neg q, obind_some, m_may_no1 th0 (by omega)]; rfl
theorem drive_both (hN : 100000000000000000000 ≤ N) (h : Inv N t K z g gm a) (e1 : w32 a1 = a1) (hc : 1 ≤ a1 ∧ a1 ≤ 30) : ∃ G H c, c / 1000 ≤ 3000 ∧ c % 1000 ≤ 300 ∧ x_drive N K g a1 = some (.inr (((c / 1000 : Nat) : Int), G)) ∧ x_pumps N K g a1 = some (.inr (((c % 1000 : Nat) : Int), G)) ∧ m_drive N gm a1 = some (((c / 1000 : Nat) : Int), H) ∧ m_pumps N gm a1 = some (((c % 1000 : Nat) : Int), H) ∧ XSame z g G ∧ MSame gm H ∧ gI H 900 0 = 0 := by
  have hr := h.r0
  have hea := h.ok.each
  have hso := h.ok.soft
  obtain ⟨n, rfl⟩ := nat_of (x := a1) (by omega)
  obtain ⟨each, hee⟩ := nat_of (x := a.rd.each) (by omega)
  obtain ⟨soft, hss⟩ := nat_of (x := a.rd.soft) (by omega)
  have mr := mrd_th h.mr
  obtain ⟨G, x1, x2, x3, x4⟩ := x_miles (N := N) (g := g) (n := n) (each := each) hN (by omega) (by omega)
  obtain ⟨H, m1, m2, m3⟩ := m_miles (N := N) (gm := sI gm 900 0 0) (n := n) (each := each) (soft := soft) hN (by rw [mr.each, hee]) (by omega) (by omega) (by rw [mr.soft, hss]) (by omega)
  have hb := dvS_bd n each n (by omega) soft (by omega)
  have W : x_within g n 1 30 = some (.inr g) := x_within_ok (by rw [e1, w32_of (by omega) (by omega)]; omega) (by rw [e1, w32_of (by omega) (by omega)]; omega)
  have g12 : gI G 12 0 = a.r := by rw [x2]; exact h.r12
  have g822 : gI G 822 a.r = soft := by rw [x2, h.xr.soft, hss]
  have g823 : gI g 823 a.r = each := by rw [h.xr.each, hee]
  have hd := i_div_nat (a := dvS n each n soft) (b := 1000) (by omega) (by omega)
  have hm := i_rem_nat (a := dvS n each n soft) (b := 1000) (by omega) (by omega)
  have mI := m_isDrive_eq (gm := gm) e1
  rw [if_pos hc] at mI
  refine ⟨G, H, dvS n each n soft, by omega, by omega, ?_, ?_, ?_, ?_, ⟨⟨fun f q _ _ => x2 f q, fun f q _ _ _ => x2 f q, fun q k _ _ _ hq => x3 q k (by omega), fun f q _ _ => x2 f q⟩, fun k => x3 _ _ (by omega)⟩, (MSame.th).trans ⟨⟨fun f _ => m2 f 0, fun q k hq => m3 q k (by omega)⟩, fun k => m3 _ _ (by omega)⟩, by rw [m2]; exact th0⟩
  · unfold x_drive
    rw [W, obind_some]
    dsimp only [thT]
    rw [rdR_of h.r12 h.kr, obind_some, g823, x1, obind_some, rdR_of g12 h.kr, obind_some, g822, rdA_val ((x4 soft (by omega)).1) (by omega) (by omega), obind_some]
  · unfold x_pumps
    rw [W, obind_some]
    dsimp only [thT]
    rw [rdR_of h.r12 h.kr, obind_some, g823, x1, obind_some, rdR_of g12 h.kr, obind_some, g822, rdA_val ((x4 soft (by omega)).2) (by omega) (by omega), obind_some]
  · unfold m_drive
    rw [mI, obind_some, if_pos wz1, m1, obind_some]
    dsimp only
    rw [show (1000 : Int) = ((1000 : Nat) : Int) from rfl, hd]
  · unfold m_pumps
    rw [mI, obind_some, if_pos wz1, m1, obind_some]
    dsimp only
    rw [show (1000 : Int) = ((1000 : Nat) : Int) from rfl, hm]
theorem s_drive (hN : 100000000000000000000 ≤ N) (h : Inv N t K z g gm a) (h394 : 394 ≤ z) (ht : t < 64) (e1 : w32 a1 = a1) : StepOK N t (lc_34 N K z g gm a1 a2 a3 a4 a5 a6) := by
  by_cases hc : 1 ≤ a1 ∧ a1 ≤ 30
  · obtain ⟨G, H, c, c1, c2, x1, x2, m1, m2, xs, ms, tz⟩ := drive_both hN h e1 hc
    exact o_drive_v x1 m1 tz rfl (h.val xs ms h394)
  · have mI := m_isDrive_eq (gm := gm) e1
    rw [if_neg hc] at mI
    refine o_drive_r1 (w := 0) ?_ ?_ h394 ht h
    · unfold x_drive
      rw [x_within_no (by rw [e1, w32_of (by omega) (by omega), w32_of (by omega) (by omega)]; exact hc)]
      rfl
    · unfold m_drive
      rw [mI, obind_some, if_neg wz0]
theorem s_pumps (hN : 100000000000000000000 ≤ N) (h : Inv N t K z g gm a) (h394 : 394 ≤ z) (ht : t < 64) (e1 : w32 a1 = a1) : StepOK N t (lc_35 N K z g gm a1 a2 a3 a4 a5 a6) := by
  by_cases hc : 1 ≤ a1 ∧ a1 ≤ 30
  · obtain ⟨G, H, c, c1, c2, x1, x2, m1, m2, xs, ms, tz⟩ := drive_both hN h e1 hc
    exact o_pumps_v x2 m2 tz rfl (h.val xs ms h394)
  · have mI := m_isDrive_eq (gm := gm) e1
    rw [if_neg hc] at mI
    refine o_pumps_r1 (w := 0) ?_ ?_ h394 ht h
    · unfold x_pumps
      rw [x_within_no (by rw [e1, w32_of (by omega) (by omega), w32_of (by omega) (by omega)]; exact hc)]
      rfl
    · unfold m_pumps
      rw [mI, obind_some, if_neg wz0]
