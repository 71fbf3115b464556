set_option maxRecDepth 100000
/-! PLAIN 34: miles, on both sides -/
variable {N : Nat} {K K' : Nat → Nat} {t t' z z' r o : Nat} {g gm g1 gm1 : GS} {a1 a2 a3 a4 a5 a6 v w : Int} {a : Ab} {rd : Rd} {p : Pl}
def dfS : Option Nat → Int
  | none => 2147483647
  | some b => b
theorem bw_bd {fl : Bool} {c : Nat → Nat} {i p : Nat} (h : cdB c i) (hi : i < 30) (hp : p < 100) {k b : Nat} (hk : k ≤ 11) (hb : bwS fl c p k = some b) : b % 1000 ≤ 10 * (i + 1) ∧ b / 1000 ≤ 100 * (i + 1) := by
  obtain ⟨j, j1, j2⟩ := bwS_is k b hb
  have := wyS_bd (fl := fl) h (by omega) hp (k := j) (by omega)
  rw [j2]
  omega
theorem m_ways (hN : 100000000000000000000 ≤ N) {ml p each : Nat} {c : Nat → Nat} {i : Nat} (hc : ∀ q, q < 100 → gA gm 40 (100 * (ml + 1) + q) = c q) (hcb : cdB c i) (hi : i < 30) (he : gA gm 18 4 = each) (he2 : 1 ≤ each ∧ each ≤ 9) (hml : ml ≤ 30) (hp : p < 100) : loopN (fun s => m_findDrive_b50 N gm ml p s.1 s.2) N (2147483647, 0) = some (((bwS (decide (ml % each = 0)) c p 11).getD 0 : Nat) : Int) := by
  obtain ⟨b, hb⟩ := bwS_some (decide (ml % each = 0)) c p
  rw [hb]
  refine loop_up' (N := N) (fun k => (dfS (bwS (decide (ml % each = 0)) c p k), (k : Int))) 11 _ rfl (fun k hk => ?_) ?_ (by omega)
  · have hbd : 0 ≤ dfS (bwS (decide (ml % each = 0)) c p k) ∧ dfS (bwS (decide (ml % each = 0)) c p k) ≤ 2147483647 := by
      cases hq : bwS (decide (ml % each = 0)) c p k with
      | none => exact ⟨by decide, by decide⟩
      | some b =>
        have := bw_bd hcb hi hp (by omega) hq
        show 0 ≤ (b : Int) ∧ (b : Int) ≤ 2147483647
        omega
    have hwb := wyS_bd (fl := decide (ml % each = 0)) hcb (by omega) hp (k := k) (by omega)
    dsimp only
    rw [m_way hN hc hcb hi he he2 hml hp (by omega) hbd, bwS]
    by_cases q : nwS p k < 5
    · rw [if_pos q, if_pos q]; rfl
    · rw [if_neg q, if_neg q]
      cases hq : bwS (decide (ml % each = 0)) c p k with
      | none =>
        show some (Sum.inl ((if (wyS (decide (ml % each = 0)) c p k : Int) < 2147483647 then (wyS (decide (ml % each = 0)) c p k : Int) else 2147483647), (k : Int) + 1)) = some (Sum.inl ((wyS (decide (ml % each = 0)) c p k : Int), ((k + 1 : Nat) : Int)))
        rw [if_pos (by omega)]; rfl
      | some b =>
        show some (Sum.inl ((if (wyS (decide (ml % each = 0)) c p k : Int) < b then (wyS (decide (ml % each = 0)) c p k : Int) else b), (k : Int) + 1)) = some (Sum.inl (((if wyS (decide (ml % each = 0)) c p k < b then wyS (decide (ml % each = 0)) c p k else b : Nat) : Int), ((k + 1 : Nat) : Int)))
        by_cases q3 : wyS (decide (ml % each = 0)) c p k < b
        · rw [if_pos (by omega), if_pos q3]; rfl
        · rw [if_neg (by omega), if_neg q3]; rfl
  · unfold m_findDrive_b50
    dsimp only
    rw [if_pos (by decide), hb]; rfl
theorem x_ways (hN : 100000000000000000000 ≤ N) {p : Nat} {c : Nat → Nat} {i : Nat} {fl : Bool} (h1 : ∀ q, q < 100 → gA g 79 q = ((c q / 1000 : Nat) : Int)) (h2 : ∀ q, q < 100 → gA g 80 q = ((c q % 1000 : Nat) : Int)) (hcb : cdB c i) (hi : i < 30) (hp : p < 100) : xMiles_asks N g p (if fl then 1 else 0) = some (sA (sA g 81 p (((bwS fl c p 11).getD 0 / 1000 : Nat) : Int)) 82 p (((bwS fl c p 11).getD 0 % 1000 : Nat) : Int)) := by
  obtain ⟨b, hb⟩ := bwS_some fl c p
  have L : loopN (fun s => xMiles_asks_b8 N g p (if fl then 1 else 0) s.1 s.2.1 s.2.2) N ((-1), 0, 0) = some (enS (some b)) := by
    refine loop_up' (N := N) (fun k => ((enS (bwS fl c p k)).1, (enS (bwS fl c p k)).2, (k : Int))) 11 _ rfl (fun k hk => ?_) ?_ (by omega)
    · dsimp only
      rw [x_way hN h1 h2 hcb hi hp (by omega) (fun b hb => bw_bd hcb hi hp (by omega) hb), ← bwS_succ]
      rfl
    · unfold xMiles_asks_b8
      dsimp only
      rw [if_pos (by decide), hb]
  unfold xMiles_asks
  rw [L, obind_some, wrA_nat (by omega) (by omega), obind_some, wrA_nat (by omega) (by omega), obind_some, hb]
  rfl
theorem m_miles (hN : 100000000000000000000 ≤ N) {n each : Nat} (he : gA gm 18 4 = each) (he2 : 1 ≤ each ∧ each ≤ 9) (hn : n ≤ 30) {soft : Nat} (hs : gA gm 18 3 = soft) (hs2 : soft < 100) : ∃ H, m_findDrive N gm n = some ((dvS n each n soft : Int), H) ∧ (∀ f q, gI H f q = gI gm f q) ∧ ∀ b k, b ≠ 40 → gA H b k = gA gm b k := by
  unfold m_findDrive
  obtain ⟨g1, h1, h2, h3, h4⟩ := loop_ex (N := N) (B := fun s => m_findDrive_b2 N n s.1 s.2) (s := (gm, 0)) (fun i s => s.2 = (i : Int) ∧ (∀ f q, gI s.1 f q = gI gm f q) ∧ (∀ b k, b ≠ 40 → gA s.1 b k = gA gm b k) ∧ ∀ q, q < i → gA s.1 40 (100 * (n + 1) + q) = 0) 100 (fun g1 => (∀ f q, gI g1 f q = gI gm f q) ∧ (∀ b k, b ≠ 40 → gA g1 b k = gA gm b k) ∧ ∀ q, q < 100 → gA g1 40 (100 * (n + 1) + q) = 0) (fun i s hi hs => by
    obtain ⟨g2, j⟩ := s
    obtain ⟨rfl, q1, q2, q3⟩ := hs
    refine ⟨(sA g2 40 (100 * (n + 1) + i) 0, ((i + 1 : Nat) : Int)), ?_, rfl, q1, fun b k hb => by rw [gA_sA, if_neg (by omega)]; exact q2 b k hb, fun q hq => ?_⟩
    · unfold m_findDrive_b2
      dsimp only
      rw [w32_of (by omega) (by omega), w32_of (by omega) (by omega), if_neg (by omega), wrA_at (100 * (n + 1) + i) (by omega) (by omega) (by omega), obind_some]; rfl
    · rw [gA_sA]
      by_cases e : q = i
      · rw [if_pos ⟨rfl, by omega⟩]
      · rw [if_neg (by omega)]; exact q3 q (by omega)) (fun s hs => by
    obtain ⟨g2, j⟩ := s
    obtain ⟨rfl, q1, q2, q3⟩ := hs
    refine ⟨g2, ?_, q1, q2, q3⟩
    unfold m_findDrive_b2
    dsimp only
    rw [if_pos (by decide)]) ⟨rfl, fun _ _ => rfl, fun _ _ _ => rfl, fun q hq => by omega⟩ (by omega)
  rw [h1, obind_some]
  obtain ⟨g2, k1, k2, k3, k4⟩ := loop_ex (N := N) (B := fun s => m_findDrive_b30 N s.1 s.2) (s := (g1, (n : Int))) (fun i s => s.2 = ((n - i : Nat) : Int) ∧ (∀ f q, gI s.1 f q = gI gm f q) ∧ (∀ b k, b ≠ 40 → gA s.1 b k = gA gm b k) ∧ ∀ q, q < 100 → gA s.1 40 (100 * (n - i + 1) + q) = dvS n each i q) n (fun g2 => (∀ f q, gI g2 f q = gI gm f q) ∧ (∀ b k, b ≠ 40 → gA g2 b k = gA gm b k) ∧ ∀ q, q < 100 → gA g2 40 (100 + q) = dvS n each n q) (fun i s hi hs => by
    obtain ⟨g2, j⟩ := s
    obtain ⟨rfl, q1, q2, q3⟩ := hs
    dsimp only at q1 q2 q3
    have hcb := dvS_bd n each i (by omega)
    obtain ⟨g3, w1, w2, w3, w4⟩ := loop_ex (N := N) (B := fun s => m_findDrive_b36 N ((n - i : Nat) : Int) s.1 s.2) (s := (g2, 0)) (fun p s => s.2 = (p : Int) ∧ (∀ f q, gI s.1 f q = gI gm f q) ∧ (∀ b k, b ≠ 40 ∨ 100 * (n - i + 1) ≤ k → gA s.1 b k = gA g2 b k) ∧ ∀ q, q < p → gA s.1 40 (100 * (n - i) + q) = dvS n each (i + 1) q) 100 (fun g3 => (∀ f q, gI g3 f q = gI gm f q) ∧ (∀ b k, b ≠ 40 ∨ 100 * (n - i + 1) ≤ k → gA g3 b k = gA g2 b k) ∧ ∀ q, q < 100 → gA g3 40 (100 * (n - i) + q) = dvS n each (i + 1) q) (fun p s hp hs => by
      obtain ⟨g3, j⟩ := s
      obtain ⟨rfl, u1, u2, u3⟩ := hs
      dsimp only at u1 u2 u3
      have L := m_ways (gm := g3) (ml := n - i) (p := p) (each := each) (c := dvS n each i) (i := i) hN (fun q hq => by rw [u2 _ _ (Or.inr (by omega))]; exact q3 q hq) hcb (by omega) (by rw [u2 _ _ (Or.inl (by omega)), q2 _ _ (by omega)]; exact he) he2 (by omega) hp
      refine ⟨(sA g3 40 (100 * (n - i) + p) (dvS n each (i + 1) p : Int), ((p + 1 : Nat) : Int)), ?_, rfl, u1, fun b k hb => by rw [gA_sA, if_neg (by omega)]; exact u2 b k hb, fun q hq => ?_⟩
      · unfold m_findDrive_b36
        dsimp only
        rw [w32_of (by omega) (by omega), w32_of (by omega) (by omega), if_neg (by omega), L, obind_some, wrA_at (100 * (n - i) + p) (by omega) (by omega) (by omega), obind_some]; rfl
      · rw [gA_sA]
        by_cases e : q = p
        · rw [if_pos ⟨rfl, by omega⟩, e]
        · rw [if_neg (by omega)]; exact u3 q (by omega)) (fun s hs => by
      obtain ⟨g3, j⟩ := s
      obtain ⟨rfl, u1, u2, u3⟩ := hs
      refine ⟨g3, ?_, u1, u2, u3⟩
      unfold m_findDrive_b36
      dsimp only
      rw [if_pos (by decide)]) ⟨rfl, q1, fun _ _ _ => rfl, fun q hq => by omega⟩ (by omega)
    refine ⟨(g3, ((n - (i + 1) : Nat) : Int)), ?_, rfl, w2, fun b k hb => by rw [w3 _ _ (Or.inl hb)]; exact q2 b k hb, fun q hq => ?_⟩
    · unfold m_findDrive_b30
      dsimp only
      rw [w32_of (by omega) (by omega), if_neg (by omega), w1, obind_some, show ((n - i : Nat) : Int) + (-1) = ((n - (i + 1) : Nat) : Int) by omega]
    · rw [show n - (i + 1) + 1 = n - i by omega]; exact w4 q hq) (fun s hs => by
    obtain ⟨g2, j⟩ := s
    obtain ⟨rfl, q1, q2, q3⟩ := hs
    refine ⟨g2, ?_, q1, q2, fun q hq => ?_⟩
    · unfold m_findDrive_b30
      dsimp only
      rw [w32_of (by omega) (by omega), if_pos (by omega)]
    · have := q3 q hq
      rw [show 100 * (n - n + 1) + q = 100 + q by omega] at this
      exact this) ⟨by simp, h2, h3, fun q hq => by rw [Nat.sub_zero, h4 q hq]; rfl⟩ (by omega)
  rw [k1, obind_some, rdA_atv (i := 3) (k := 3) (v := (soft : Int)) (by rw [k3 _ _ (by omega)]; exact hs) rfl (by omega) (by omega), obind_some, rdA_atv (k := 100 + soft) (k4 soft hs2) (by omega) (by omega) (by omega), obind_some]
  exact ⟨g2, rfl, k2, k3⟩
