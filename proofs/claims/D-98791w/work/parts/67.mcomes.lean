set_option maxRecDepth 100000
/-! PLAIN 8: a line comes: the model -/
variable {N : Nat} {K : Nat → Nat} {r o : Nat} {g gm : GS} {rd : Rd} {lw : Int → Int → Int → Int → Int → Int → Int} {more : Nat → Int} {drawn : Bool} {s : Wt} {M : Int}
def MFr (g g' : GS) : Prop := (∀ f q, f ≠ 958 → f ≠ 968 → gI g' f q = gI g f q) ∧ ∀ a k, a ≠ 23 → a ≠ 24 → (a < 29 ∨ 34 < a) → gA g' a k = gA g a k
theorem MFr.refl : MFr g g := ⟨fun _ _ _ _ => rfl, fun _ _ _ _ _ => rfl⟩
theorem MFr.trans {g1 g2 : GS} (h1 : MFr g g1) (h2 : MFr g1 g2) : MFr g g2 := ⟨fun f q a b => (h2.1 f q a b).trans (h1.1 f q a b), fun q k a b c => (h2.2 q k a b c).trans (h1.2 q k a b c)⟩
theorem MFr.mr {g' : GS} (h : MFr gm g') (hx : MRd gm rd) : MRd g' rd := hx.mono (fun f h1 h2 => h.1 f 0 (by omega) (by omega)) fun q k h1 h2 _ _ => h.2 q k (by omega) (by omega) (by omega)
theorem MFr.ml {g' : GS} (h : MFr gm g') (hx : MLw N gm lw) : MLw N g' lw := hx.mono (h.1 _ _ (by omega) (by omega)) (fun k => h.2 _ _ (by omega) (by omega) (by omega)) fun k => h.2 _ _ (by omega) (by omega) (by omega)
theorem m_works_eq (hN : 100000000000000000000 ≤ N) (ok : RdOK rd) (h : MRd gm rd) {d w b n : Nat} (hd : d < rd.D) (hw : w < 16) (hb : b ≤ 50000) (hn : n ≤ 1000) (l1 l2 l3 : Int) : ∃ a, loopN (fun s => m_goes_b245 N l1 l2 l3 d w b n s.1 s.2) N (gm, 0) = some a ∧ (∀ f q, gI a f q = gI gm f q) ∧ (∀ q j, q ≠ 31 → q ≠ 33 → q ≠ 34 → gA a q j = gA gm q j) ∧ ∀ p, gA a 31 p = wkS rd w rd.P (gA gm 31) (fun _ => (b : Int) + n) p ∧ gA a 33 p = wkS rd w rd.P (gA gm 33) (fun v => v + rnS rd d b n) p ∧ gA a 34 p = wkS rd w rd.P (gA gm 34) (fun v => v + n) p := by
  have hP := ok.P
  have hD := ok.D
  have hou := ok.ou d hd
  refine loop_ex (fun i s => s.2 = (i : Int) ∧ (∀ f q, gI s.1 f q = gI gm f q) ∧ (∀ q j, q ≠ 31 → q ≠ 33 → q ≠ 34 → gA s.1 q j = gA gm q j) ∧ ∀ p, gA s.1 31 p = wkS rd w i (gA gm 31) (fun _ => (b : Int) + n) p ∧ gA s.1 33 p = wkS rd w i (gA gm 33) (fun v => v + rnS rd d b n) p ∧ gA s.1 34 p = wkS rd w i (gA gm 34) (fun v => v + n) p) rd.P _ (fun i s hi hs => ?_) (fun s hs => ?_) ⟨rfl, fun _ _ => rfl, fun _ _ _ _ _ => rfl, fun p => ⟨by simp [wkS], by simp [wkS], by simp [wkS]⟩⟩ (by omega)
  · obtain ⟨g1, j⟩ := s
    obtain ⟨rfl, h1, h2, h3⟩ := hs
    dsimp only at h1 h2 h3
    have X1 : MRd g1 rd := h.mono (fun f _ _ => h1 f 0) fun q k _ _ _ _ => h2 q k (by omega) (by omega) (by omega)
    cases e2 : w.testBit i
    · refine ⟨(g1, ((i + 1 : Nat) : Int)), by simp (disch := omega) [w32_of, bit_at, rdA_nat, wrA_nat, obind_some, outR_eq, m_goes_b245, X1.P, e2, show ¬((rd.P : Int) ≤ i) by omega], rfl, h1, h2, fun p => ?_⟩
      have hh : ∀ (f : Nat → Int) (v : Int → Int), wkS rd w (i + 1) f v p = wkS rd w i f v p := by
        intro f v
        unfold wkS
        by_cases e7 : p = i
        · subst e7; simp [e2]
        · simp only [show p < i + 1 ↔ p < i by omega]
      rw [hh, hh, hh]
      exact h3 p
    · refine ⟨(sA (sA (sA g1 31 i ((b : Int) + n)) 34 i (gA gm 34 i + n)) 33 i (gA gm 33 i + rnS rd d b n), ((i + 1 : Nat) : Int)), ?_, rfl, h1, fun q j q1 q2 q3 => ?_, fun p => ?_⟩
      · have e5 : gA g1 34 i = gA gm 34 i := by rw [(h3 i).2.2]; simp [wkS]
        have e6 : gA g1 33 i = gA gm 33 i := by rw [(h3 i).2.1]; simp [wkS]
        have X2 : MRd (sA (sA g1 31 i ((b : Int) + n)) 34 i (gA gm 34 i + n)) rd := (X1.sA (by omega)).sA (by omega)
        have r1 : rdA (sA (sA g1 31 i ((b : Int) + n)) 34 i (gA gm 34 i + n)) 10 60 (5 * (d : Int) + 1) = some (rd.ou d) := rdA_atv (X2.ou d hd) (by omega) (by omega) (by omega)
        have r2 := m_rainIn_eq (b := b) (n := n) hN X2 (by omega) (by omega)
        rw [Int.natCast_add] at r2
        by_cases e7 : rd.ou d = 1
        · simp (disch := omega) [w32_of, bit_at, rdA_nat, wrA_nat, obind_some, outR_eq, m_goes_b245, X1.P, e2, show ¬((rd.P : Int) ≤ i) by omega, m_goes_j329, gA_sA, e5, e6, r1, r2, e7, rnS]
        · simp (disch := omega) [w32_of, bit_at, rdA_nat, wrA_nat, obind_some, outR_eq, m_goes_b245, X1.P, e2, show ¬((rd.P : Int) ≤ i) by omega, m_goes_j329, gA_sA, e5, e6, r1, r2, e7, rnS]
      · simp only [gA_sA]
        rw [if_neg (by omega), if_neg (by omega), if_neg (by omega)]
        exact h2 q j q1 q2 q3
      · have h4 := h3 p
        by_cases e7 : p = i
        · subst e7
          simp [gA_sA, wkS, e2]
        · have e8 : ∀ (f : Nat → Int) (v : Int → Int), wkS rd w (i + 1) f v p = wkS rd w i f v p := fun f v => by unfold wkS; simp only [show p < i + 1 ↔ p < i by omega]
          rw [e8, e8, e8]
          simp only [gA_sA]
          rw [if_neg (by omega), if_neg (by omega), if_neg (by omega), if_neg (by omega), if_neg (by omega), if_neg (by omega), if_neg (by omega), if_neg (by omega), if_neg (by omega)]
          exact h4
  · obtain ⟨g1, j⟩ := s
    obtain ⟨rfl, h1, h2, h3⟩ := hs
    dsimp only at h1 h2 h3
    have hP1 : gI g1 932 0 = rd.P := by rw [h1, h.P]
    exact ⟨g1, by simp (disch := omega) [w32_of, bit_at, rdA_nat, wrA_nat, obind_some, outR_eq, m_goes_b245, hP1], h1, h2, h3⟩
theorem m_j188_eq (hN : 100000000000000000000 ≤ N) (ok : RdOK rd) (h : MRd gm rd) {d w b k : Nat} (hd : d < rd.D) (hw : w < 16) (hb : b ≤ 50000) (hk : k < 12) {n0 n : Int} (hm : gA gm 35 d = n - n0) (hn : 0 ≤ n ∧ n ≤ 1000) (sp l1 : Int) (hsp : 0 ≤ sp ∧ sp ≤ 100000) : ∃ a, m_goes_j188 N gm l1 sp k d w b n0 = some (.inl (a, max sp ((b : Int) + n), ((k + 1 : Nat) : Int))) ∧ (∀ f q, gI a f q = gI gm f q) ∧ (∀ q j, q ≠ 30 → q ≠ 32 → q ≠ 31 → q ≠ 33 → q ≠ 34 → gA a q j = gA gm q j) ∧ ∀ p, gA a 30 p = setN (gA gm 30) k ((b : Int) + n) p ∧ gA a 32 p = setN (gA gm 32) d ((b : Int) + n) p ∧ gA a 31 p = wkS rd w rd.P (gA gm 31) (fun _ => (b : Int) + n) p ∧ gA a 33 p = wkS rd w rd.P (gA gm 33) (fun v => v + rnS rd d b n) p ∧ gA a 34 p = wkS rd w rd.P (gA gm 34) (fun v => v + n) p := by
  have hD := ok.D
  obtain ⟨m, hmn⟩ : ∃ m : Nat, n = m := ⟨n.toNat, by omega⟩
  subst hmn
  obtain ⟨G, hG⟩ : ∃ G, G = sA (sA gm 30 k ((b : Int) + m)) 32 d ((b : Int) + m) := ⟨_, rfl⟩
  have X1 : MRd G rd := by subst hG; exact (h.sA (by omega)).sA (by omega)
  have key : ∀ sp' : Int, sp' = max sp ((b : Int) + m) → ∃ a, m_goes_j241 N G l1 k d w b m sp' = some (.inl (a, max sp ((b : Int) + m), ((k + 1 : Nat) : Int))) ∧ (∀ f q, gI a f q = gI gm f q) ∧ (∀ q j, q ≠ 30 → q ≠ 32 → q ≠ 31 → q ≠ 33 → q ≠ 34 → gA a q j = gA gm q j) ∧ ∀ p, gA a 30 p = setN (gA gm 30) k ((b : Int) + m) p ∧ gA a 32 p = setN (gA gm 32) d ((b : Int) + m) p ∧ gA a 31 p = wkS rd w rd.P (gA gm 31) (fun _ => (b : Int) + m) p ∧ gA a 33 p = wkS rd w rd.P (gA gm 33) (fun v => v + rnS rd d b m) p ∧ gA a 34 p = wkS rd w rd.P (gA gm 34) (fun v => v + m) p := by
    intro sp' hsp'
    subst hsp'
    obtain ⟨a, h1, h3, h4, h5⟩ := m_works_eq hN ok X1 hd hw hb (n := m) (by omega) l1 (max sp ((b : Int) + m)) k
    unfold m_goes_j241
    rw [h1, obind_some]
    refine ⟨a, by simp, fun f q => ?_, fun q j q1 q2 q3 q4 q5 => ?_, fun p => ?_⟩
    · rw [h3]; subst hG; rfl
    · rw [h4 _ _ q3 q4 q5]; subst hG
      simp only [gA_sA]
      rw [if_neg (by omega), if_neg (by omega)]
    · obtain ⟨q1, q2, q3⟩ := h5 p
      have e4 : gA G 31 = gA gm 31 := by funext j; subst hG; simp [gA_sA]
      have e5 : gA G 33 = gA gm 33 := by funext j; subst hG; simp [gA_sA]
      have e6 : gA G 34 = gA gm 34 := by funext j; subst hG; simp [gA_sA]
      refine ⟨?_, ?_, q1.trans (by rw [e4]), q2.trans (by rw [e5]), q3.trans (by rw [e6])⟩
      · rw [h4 _ _ (by omega) (by omega) (by omega)]; subst hG; simp [gA_sA, setN]
      · rw [h4 _ _ (by omega) (by omega) (by omega)]; subst hG; simp [gA_sA, setN]
  unfold m_goes_j188
  rw [rdA_val hm (by omega) (by omega), obind_some, show n0 + ((m : Int) - n0) = m by omega, wrA_nat (by omega) (by omega), obind_some, wrA_nat (by omega) (by omega), obind_some, ← hG, w32_of (by omega) (by omega), w32_of (by omega) (by omega)]
  by_cases e : (b : Int) + m ≤ sp
  · rw [if_pos e]; exact key _ (by omega)
  · rw [if_neg e]; exact key _ (by omega)
