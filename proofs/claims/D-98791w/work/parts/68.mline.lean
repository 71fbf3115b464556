set_option maxRecDepth 100000
/-! PLAIN 9: a line comes: the model's round -/
variable {N : Nat} {K : Nat → Nat} {r o : Nat} {g gm : GS} {rd : Rd} {lw : Int → Int → Int → Int → Int → Int → Int} {more : Nat → Int} {drawn : Bool} {s : Wt} {M : Int}
theorem m_comes_eq (hN : 100000000000000000000 ≤ N) (ok : RdOK rd) (hlw : lwOK lw) (h : MRd gm rd) (hl : MLw N gm lw) (hx : MW gm more s) (hb : WtB M s) (hM0 : 0 ≤ M) (hM : M ≤ 40000) (hmo : ∀ d, d < 12 → 0 ≤ more d ∧ more d ≤ 100) {n k d w : Nat} (hn : gI gm 949 0 = n) (hkn : k < n) (hn12 : n ≤ 12) (hpd : gA gm 26 (2 * k) = d) (hpw : gA gm 26 (2 * k + 1) = w) (hd : d < rd.D) (hw : w < 16) : ∃ g', m_goes_b64 N (if drawn then 1 else 0) gm s.sp k = some (.inl (g', (comesS rd lw more drawn k d w s).sp, ((k + 1 : Nat) : Int))) ∧ MW g' more (comesS rd lw more drawn k d w s) ∧ MFr gm g' := by
  have hD := ok.D
  have hP := ok.P
  have hsp := hb.sp
  have r1 : rdA gm 26 24 (2 * (k : Int)) = some ((d : Nat) : Int) := rdA_atv hpd (by omega) (by omega) (by omega)
  have r2 : rdA gm 26 24 (2 * (k : Int) + 1) = some ((w : Nat) : Int) := rdA_atv hpw (by omega) (by omega) (by omega)
  unfold m_goes_b64
  rw [hn, w32_of (by omega) (by omega), w32_of (by omega) (by omega), if_neg (by omega), r1, obind_some, r2, obind_some, m_mayDo_eq hN ok h hd hw, obind_some]
  have no : (doneS rd d w && readyB rd s.eo d) = false → ∃ g', m_goes_j117 N gm (if drawn then 1 else 0) s.sp k d w (-1) = some (.inl (g', (comesS rd lw more drawn k d w s).sp, ((k + 1 : Nat) : Int))) ∧ MW g' more (comesS rd lw more drawn k d w s) ∧ MFr gm g' := by
    intro e
    have e2 : comesS rd lw more drawn k d w s = Wt.mk (setN s.be k (-1)) (setN s.en k (-1)) s.eo s.fr s.we s.bu s.sp s.ag s.lo := by unfold comesS; rw [e]; rfl
    rw [e2]
    refine ⟨sA (sA gm 29 k (-1)) 30 k (-1), ?_, MW.mk (fun j hj => ?_) (fun j hj => ?_) (fun j hj => ?_) (fun j hj => ?_) (fun j hj => ?_) (fun j hj => ?_) hx.ag hx.lo (fun j hj => ?_), fun _ _ _ _ => rfl, fun a j _ _ _ => ?_⟩
    · unfold m_goes_j117
      rw [wrA_nat (by omega) (by omega), obind_some, wrA_nat (by omega) (by omega), obind_some, if_neg (by decide)]
      rfl
    · show gA (sA (sA gm 29 k (-1)) 30 k (-1)) 29 j = (if j = k then -1 else s.be j)
      by_cases e5 : j = k
      · simp [gA_sA, e5]
      · simp [gA_sA, e5, hx.be j hj]
    · show gA (sA (sA gm 29 k (-1)) 30 k (-1)) 30 j = (if j = k then -1 else s.en j)
      by_cases e5 : j = k
      · simp [gA_sA, e5]
      · simp [gA_sA, e5, hx.en j hj]
    · simp only [gA_sA]; rw [if_neg (by omega), if_neg (by omega)]; exact hx.eo j hj
    · simp only [gA_sA]; rw [if_neg (by omega), if_neg (by omega)]; exact hx.fr j hj
    · simp only [gA_sA]; rw [if_neg (by omega), if_neg (by omega)]; exact hx.we j hj
    · simp only [gA_sA]; rw [if_neg (by omega), if_neg (by omega)]; exact hx.bu j hj
    · simp only [gA_sA]; rw [if_neg (by omega), if_neg (by omega)]; exact hx.mo j hj
    · simp only [gA_sA]; rw [if_neg (by omega), if_neg (by omega)]
  cases e1 : doneS rd d w
  · rw [if_pos (by decide)]
    exact no (by rw [e1]; rfl)
  · rw [if_neg (by decide), m_beginOf_eq hN ok h hx.eo hx.fr hM0 (by omega) hb.eo hb.fr hd hw readyB_iff, obind_some]
    cases e2 : readyB rd s.eo d
    · exact no (by rw [e1, e2]; rfl)
    · have hbb := begS_bd ok hM0 hb.eo hb.fr (w := w) hd
      obtain ⟨b, hbn⟩ : ∃ b : Nat, begS rd s.eo s.fr d w = b := ⟨(begS rd s.eo s.fr d w).toNat, by omega⟩
      have e3 : comesS rd lw more drawn k d w s = lineS rd lw more drawn k d w s b := by unfold comesS; rw [e1, e2, hbn]; rfl
      have hls := hlw (rd.mi d) (rd.ha d) (strS rd w) (if rd.ou d = 1 ∧ rainAt rd b = true then 1 else 0) b (rd.ou d)
      have hls : 1 ≤ lastS rd lw d w b ∧ lastS rd lw d w b ≤ 99 := hls
      have hmd := hmo d (by omega)
      have hag := hb.ag
      have X1 : MRd (sA (sA gm 29 k b) 30 k (-1)) rd := (h.sA (by omega)).sA (by omega)
      obtain ⟨G2, l1, l2, l3⟩ := m_lastsOf_eq hN ok X1 (hl.mono (g' := sA (sA gm 29 k b) 30 k (-1)) rfl (fun _ => by simp [gA_sA]) (fun _ => by simp [gA_sA])) hd hw (t := b) (by omega)
      have X2 : MRd G2 rd := X1.mono (fun f _ _ => l2 f 0) fun q j _ _ _ _ => l3 q j (by omega) (by omega)
      have a2 : ∀ a j, a ≠ 23 → a ≠ 24 → a ≠ 29 → a ≠ 30 → gA G2 a j = gA gm a j := fun a j h1 h2 h3 h4 => by
        rw [l3 a j h1 h2]; simp only [gA_sA]; rw [if_neg (by omega), if_neg (by omega)]
      have fin : ∀ (G3 : GS) (n0 : Int), n0 + more d = nS rd lw more drawn d w s b → (∀ q j, gA G3 q j = gA G2 q j) → (∀ f q, f ≠ 958 → f ≠ 968 → gI G3 f q = gI G2 f q) → gI G3 958 0 = (if againS rd drawn s then s.ag + 1 else s.ag) → gI G3 968 0 = (if drawn then s.lo * 1103515245 + 12345 else s.lo) → ∃ g', m_goes_j188 N G3 (if drawn then 1 else 0) s.sp k d w b n0 = some (.inl (g', (lineS rd lw more drawn k d w s b).sp, ((k + 1 : Nat) : Int))) ∧ MW g' more (lineS rd lw more drawn k d w s b) ∧ MFr gm g' := by
        intro G3 n0 hn q1 q2 q3 q4
        have hnb : 1 ≤ nS rd lw more drawn d w s b ∧ nS rd lw more drawn d w s b ≤ 298 := by
          unfold nS
          simp only [Int.toNat_natCast]
          split <;> omega
        have X3 : MRd G3 rd := X2.mono (fun f h1 h2 => q2 f 0 (by omega) (by omega)) fun q j _ _ _ _ => q1 q j
        obtain ⟨g', w1, w3, w4, w5⟩ := m_j188_eq hN ok X3 hd hw (b := b) (k := k) (by omega) (by omega) (n0 := n0) (n := nS rd lw more drawn d w s b) (by rw [q1, a2 _ _ (by omega) (by omega) (by omega) (by omega), hx.mo d (by omega)]; omega) (by omega) s.sp (if drawn then 1 else 0) (by omega)
        refine ⟨g', w1, MW.mk (fun j hj => ?_) (fun j hj => ?_) (fun j hj => ?_) (fun j hj => ?_) (fun j hj => ?_) (fun j hj => ?_) ?_ ?_ (fun j hj => ?_), fun f q h1 h2 => ?_, fun a j h1 h2 h3 => ?_⟩
        · rw [w4 _ _ (by omega) (by omega) (by omega) (by omega) (by omega), q1, l3 _ _ (by omega) (by omega)]
          show gA (sA (sA gm 29 k b) 30 k (-1)) 29 j = (if j = k then (b : Int) else s.be j)
          by_cases e5 : j = k
          · simp [gA_sA, e5]
          · simp [gA_sA, e5, hx.be j hj]
        · rw [(w5 j).1]
          show (if j = k then (b : Int) + nS rd lw more drawn d w s b else gA G3 30 j) = (if j = k then (b : Int) + nS rd lw more drawn d w s b else s.en j)
          by_cases e5 : j = k
          · rw [if_pos e5, if_pos e5]
          · rw [if_neg e5, if_neg e5, q1, l3 _ _ (by omega) (by omega)]
            simp [gA_sA, e5, hx.en j hj]
        · rw [(w5 j).2.1]
          show (if j = d then (b : Int) + nS rd lw more drawn d w s b else gA G3 32 j) = (if j = d then (b : Int) + nS rd lw more drawn d w s b else s.eo j)
          rw [q1, a2 _ _ (by omega) (by omega) (by omega) (by omega), hx.eo j hj]
        · rw [(w5 j).2.2.1]
          show (if j < rd.P ∧ w.testBit j = true then (b : Int) + nS rd lw more drawn d w s b else gA G3 31 j) = (if j < rd.P ∧ w.testBit j = true then (b : Int) + nS rd lw more drawn d w s b else s.fr j)
          rw [q1, a2 _ _ (by omega) (by omega) (by omega) (by omega), hx.fr j hj]
        · rw [(w5 j).2.2.2.1]
          show (if j < rd.P ∧ w.testBit j = true then gA G3 33 j + rnS rd d b (nS rd lw more drawn d w s b) else gA G3 33 j) = (if j < rd.P ∧ w.testBit j = true then s.we j + rnS rd d b (nS rd lw more drawn d w s b) else s.we j)
          rw [q1, a2 _ _ (by omega) (by omega) (by omega) (by omega), hx.we j hj]
        · rw [(w5 j).2.2.2.2]
          show (if j < rd.P ∧ w.testBit j = true then gA G3 34 j + nS rd lw more drawn d w s b else gA G3 34 j) = (if j < rd.P ∧ w.testBit j = true then s.bu j + nS rd lw more drawn d w s b else s.bu j)
          rw [q1, a2 _ _ (by omega) (by omega) (by omega) (by omega), hx.bu j hj]
        · rw [w3, q3]; rfl
        · rw [w3, q4]; rfl
        · rw [w4 _ _ (by omega) (by omega) (by omega) (by omega) (by omega), q1, a2 _ _ (by omega) (by omega) (by omega) (by omega), hx.mo j hj]
        · rw [w3, q2 _ _ h1 h2, l2]; rfl
        · rw [w4 _ _ (by omega) (by omega) (by omega) (by omega) (by omega), q1, a2 _ _ (by omega) (by omega) (by omega) (by omega)]
      rw [if_pos rfl, e3]
      rw [show begS rd s.eo s.fr d w = (b : Int) from hbn]
      unfold m_goes_j117
      rw [wrA_nat (by omega) (by omega), obind_some, wrA_nat (by omega) (by omega), obind_some, w32_of (by omega) (by omega), w32_m1, if_pos (by omega), l1, obind_some]
      have v58 : gI G2 958 0 = s.ag := by rw [l2]; exact hx.ag
      have v68 : gI G2 968 0 = s.lo := by rw [l2]; exact hx.lo
      cases hdr : drawn
      · subst hdr
        rw [show (if false = true then (1 : Int) else 0) = 0 from rfl, w32_z, if_pos rfl]
        exact fin G2 _ (by simp [nS, againS]) (fun _ _ => rfl) (fun _ _ _ _ => rfl) (by rw [v58]; simp [againS]) v68
      · subst hdr
        have hdw := drwS_bd s.lo
        have hlo := ok.loses
        rw [show (if true = true then (1 : Int) else 0) = 1 from rfl, if_neg (by decide)]
        unfold m_draws
        rw [obind_some]
        dsimp only
        rw [v68, show gI (sI G2 968 0 (s.lo * 1103515245 + 12345)) 968 0 = s.lo * 1103515245 + 12345 by simp [gI_sI], show gI (sI G2 968 0 (s.lo * 1103515245 + 12345)) 958 0 = s.ag by rw [gI_sI, if_neg (by omega), v58], show i_rem (i_and (i_shr (s.lo * 1103515245 + 12345) 16) 32767) 16 = drwS s.lo from rfl, rdA_atv (i := 2) (k := 2) (X2.sI (by omega)).loses rfl (by omega) (by omega), obind_some, w32_of (by omega) (by omega), w32_of (by omega) (by omega)]
        by_cases e6 : rd.loses ≤ drwS s.lo
        · rw [if_pos e6]
          have e7 : againS rd true s = false := by unfold againS; rw [decide_eq_false (by omega)]; rfl
          refine fin _ _ (by simp [nS, e7]) (fun _ _ => rfl) (fun f q h1 h2 => by rw [gI_sI, if_neg (by omega)]) ?_ (by simp [gI_sI])
          rw [gI_sI, if_neg (by omega), v58, e7]; rfl
        · rw [if_neg e6]
          have e7 : againS rd true s = true := by unfold againS; rw [decide_eq_true (by omega)]; rfl
          refine fin _ _ (by simp [nS, e7]) (fun _ _ => rfl) (fun f q h1 h2 => by rw [gI_sI, if_neg (by omega), gI_sI, if_neg (by omega)]) ?_ (by simp [gI_sI])
          rw [gI_sI, if_pos ⟨rfl, rfl⟩, e7]; rfl
