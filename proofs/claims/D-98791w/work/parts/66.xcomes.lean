set_option maxRecDepth 100000
/-! PLAIN 7: a line comes: the watch -/
variable {N : Nat} {K : Nat → Nat} {r o z : Nat} {g gm : GS} {rd : Rd} {lw : Int → Int → Int → Int → Int → Int → Int} {more : Nat → Int} {drawn : Bool} {s : Wt} {M : Int}
theorem x_j192_eq (hN : 100000000000000000000 ≤ N) (ok : RdOK rd) (h : XRd r g rd) (hr : gI g 308 o = r) (hK : K r = 9) (ho : o + 8 ≤ r ∨ r + 18 ≤ o) {k d w b n : Nat} (hk : k < 12) (hd : d < rd.D) (hw : w < 16) (hb : b ≤ 50000) (hn : n ≤ 1000) (hsp : 0 ≤ gI g 309 o ∧ gI g 309 o ≤ 100000) : ∃ a, xWatch_comes_j192 N K o g k d w b n = some a ∧ a.1 = 1 ∧ (∀ f q, gI a.2 f q = if f = 309 ∧ q = o then max (gI g 309 o) ((b : Int) + n) else gI g f q) ∧ (∀ q j, q ≤ o ∨ o + 7 ≤ q → gA a.2 q j = gA g q j) ∧ ∀ p, gA a.2 (o + 1) p = setN (gA g (o + 1)) k b p ∧ gA a.2 (o + 2) p = setN (gA g (o + 2)) k ((b : Int) + n) p ∧ gA a.2 (o + 3) p = setN (gA g (o + 3)) d ((b : Int) + n) p ∧ gA a.2 (o + 4) p = wkS rd w rd.P (gA g (o + 4)) (fun _ => (b : Int) + n) p ∧ gA a.2 (o + 5) p = wkS rd w rd.P (gA g (o + 5)) (fun v => v + rnS rd d b n) p ∧ gA a.2 (o + 6) p = wkS rd w rd.P (gA g (o + 6)) (fun v => v + n) p := by
  have hD := ok.D
  have hou := ok.ou d hd
  obtain ⟨G, hG⟩ : ∃ G, G = sI (sA (sA (sA g (o + 1) k b) (o + 2) k ((b : Int) + n)) (o + 3) d ((b : Int) + n)) 309 o (max (gI g 309 o) ((b : Int) + n)) := ⟨_, rfl⟩
  have X1 : XRd r G rd := by subst hG; exact (((h.sA (by omega)).sA (by omega)).sA (by omega)).sI (by omega)
  have hr1 : gI G 308 o = r := by subst hG; exact hr
  have he : gA G (o + 2) k = (b : Int) + n := by subst hG; simp [gI_sI, gA_sI, gA_sA]
  have key : ∀ rn : Int, rn = rnS rd d b n → ∃ a, xWatch_comes_j272 N K o G k w n rn = some a ∧ a.1 = 1 ∧ (∀ f q, gI a.2 f q = if f = 309 ∧ q = o then max (gI g 309 o) ((b : Int) + n) else gI g f q) ∧ (∀ q j, q ≤ o ∨ o + 7 ≤ q → gA a.2 q j = gA g q j) ∧ ∀ p, gA a.2 (o + 1) p = setN (gA g (o + 1)) k b p ∧ gA a.2 (o + 2) p = setN (gA g (o + 2)) k ((b : Int) + n) p ∧ gA a.2 (o + 3) p = setN (gA g (o + 3)) d ((b : Int) + n) p ∧ gA a.2 (o + 4) p = wkS rd w rd.P (gA g (o + 4)) (fun _ => (b : Int) + n) p ∧ gA a.2 (o + 5) p = wkS rd w rd.P (gA g (o + 5)) (fun v => v + rnS rd d b n) p ∧ gA a.2 (o + 6) p = wkS rd w rd.P (gA g (o + 6)) (fun v => v + n) p := by
    intro rn hrn
    subst hrn
    obtain ⟨a, h1, h2, h3, h4, h5⟩ := x_works_eq hN ok X1 hr1 hK ho hk hw he n (rnS rd d b n)
    refine ⟨a, h1, h2, fun f q => ?_, fun q j hq => ?_, fun p => ?_⟩
    · rw [h3]; subst hG; rfl
    · rw [h4 _ _ (by omega) (by omega) (by omega)]; subst hG
      simp only [gA_sI, gA_sA]
      rw [if_neg (by omega), if_neg (by omega), if_neg (by omega)]
    · obtain ⟨q1, q2, q3⟩ := h5 p
      have e4 : gA G (o + 4) = gA g (o + 4) := by
        funext j; subst hG
        simp only [gA_sI, gA_sA]
        rw [if_neg (by omega), if_neg (by omega), if_neg (by omega)]
      have e5 : gA G (o + 5) = gA g (o + 5) := by
        funext j; subst hG
        simp only [gA_sI, gA_sA]
        rw [if_neg (by omega), if_neg (by omega), if_neg (by omega)]
      have e6 : gA G (o + 6) = gA g (o + 6) := by
        funext j; subst hG
        simp only [gA_sI, gA_sA]
        rw [if_neg (by omega), if_neg (by omega), if_neg (by omega)]
      refine ⟨?_, ?_, ?_, q1.trans (by rw [e4]), q2.trans (by rw [e5]), q3.trans (by rw [e6])⟩
      · rw [h4 _ _ (by omega) (by omega) (by omega)]; subst hG
        simp [gI_sI, gA_sI, gA_sA, setN]
      · rw [h4 _ _ (by omega) (by omega) (by omega)]; subst hG
        simp [gI_sI, gA_sI, gA_sA, setN]
      · rw [h4 _ _ (by omega) (by omega) (by omega)]; subst hG
        simp [gI_sI, gA_sI, gA_sA, setN]
  unfold xWatch_comes_j192
  rw [wrA_nat (by omega) (by omega), obind_some, wrA_nat (by omega) (by omega), obind_some, rdA_val (v := (b : Int) + n) (by simp [gA_sA]) (by omega) (by omega), obind_some, wrA_nat (by omega) (by omega), obind_some, rdA_val (v := (b : Int) + n) (by simp [gA_sA]) (by omega) (by omega), obind_some, show gI (sA (sA (sA g (o + 1) k b) (o + 2) k ((b : Int) + n)) (o + 3) d ((b : Int) + n)) 309 o = gI g 309 o from rfl, imax_of (by omega) (by omega) (by omega) (by omega), ← hG, rdR_of hr1 hK, obind_some, rdA_val (X1.ou d hd) (by omega) (by omega), obind_some, w32_of (by omega) (by omega), w32_of (by omega) (by omega)]
  by_cases e1 : rd.ou d = 1
  · rw [if_neg (by omega), obind_some, rdA_val he (by omega) (by omega), obind_some, show ((b : Int) + n) = ((b + n : Nat) : Int) by omega, xRoad_rainIn_eq hN X1 (by omega) (by omega), obind_some]
    exact key _ (by simp [rnS, e1])
  · rw [if_pos e1]
    exact key 0 (by simp [rnS, e1])
theorem xWatch_comes_eq (hN : 100000000000000000000 ≤ N) (ok : RdOK rd) (hlw : lwOK lw) (h : XRd r g rd) (hK : K r = 9) (hl : XLw K z g lw) (hx : XW r o g rd more drawn s) (hb : WtB M s) (hM0 : 0 ≤ M) (hM : M ≤ 40000) (hmo : ∀ d, d < 12 → 0 ≤ more d ∧ more d ≤ 100) (hdm : drawn = true → ∀ d, d < 12 → more d = 0) (ho : o + 8 ≤ r ∨ r + 18 ≤ o) {k d w : Nat} (hk : k < 12) (hd : d < rd.D) (hw : w < 16) : ∃ g', xWatch_comes N K o g k d w = some ((if doneS rd d w && readyB rd s.eo d then 1 else 0), g') ∧ XW r o g' rd more drawn (comesS rd lw more drawn k d w s) ∧ WFr o g g' := by
  have hD := ok.D
  have hP := ok.P
  obtain ⟨G, hG⟩ : ∃ G, G = sA (sA g (o + 1) k (-1)) (o + 2) k (-1) := ⟨_, rfl⟩
  have X1 : XRd r G rd := by subst hG; exact (h.sA (by omega)).sA (by omega)
  have hr1 : gI G 308 o = r := by subst hG; exact hx.rr
  have g1 : ∀ f q, gI G f q = gI g f q := by subst hG; exact fun _ _ => rfl
  have g2 : ∀ q j, q ≠ o + 1 → q ≠ o + 2 → gA G q j = gA g q j := by
    intro q j q1 q2; subst hG
    simp only [gA_sA]
    rw [if_neg (by omega), if_neg (by omega)]
  have a1 : ∀ j, gA G (o + 1) j = setN (gA g (o + 1)) k (-1) j := by intro j; subst hG; simp [gA_sA, setN]
  have a2 : ∀ j, gA G (o + 2) j = setN (gA g (o + 2)) k (-1) j := by intro j; subst hG; simp [gA_sA, setN]
  have a3 : ∀ i, i < 12 → gA G (o + 3) i = s.eo i := fun i hi => by rw [g2 _ _ (by omega) (by omega), hx.eo i hi]
  have a4 : ∀ i, i < 4 → gA G (o + 4) i = s.fr i := fun i hi => by rw [g2 _ _ (by omega) (by omega), hx.fr i hi]
  have no : (doneS rd d w && readyB rd s.eo d) = false → XW r o G rd more drawn (comesS rd lw more drawn k d w s) ∧ WFr o g G := by
    intro e
    have e2 : comesS rd lw more drawn k d w s = Wt.mk (setN s.be k (-1)) (setN s.en k (-1)) s.eo s.fr s.we s.bu s.sp s.ag s.lo := by unfold comesS; rw [e]; rfl
    rw [e2]
    refine ⟨XW.mk hr1 (fun j hj => ?_) (fun j hj => ?_) a3 a4 (fun i hi => by rw [g2 _ _ (by omega) (by omega)]; exact hx.we i hi) (fun i hi => by rw [g2 _ _ (by omega) (by omega)]; exact hx.bu i hi) (by rw [g1]; exact hx.sp) (by rw [g1]; exact hx.ag) (by rw [g1]; exact hx.lo) (by rw [g1]; exact hx.ls) (by simp only [g1]; exact hx.mo) (by rw [g1]; exact hx.l2), fun f q _ => g1 f q, fun f q _ _ => g1 f q, fun q j hq => g2 q j (by omega) (by omega)⟩
    · rw [a1]
      show (if j = k then -1 else gA g (o + 1) j) = (if j = k then -1 else s.be j)
      rw [hx.be j hj]
    · rw [a2]
      show (if j = k then -1 else gA g (o + 2) j) = (if j = k then -1 else s.en j)
      rw [hx.en j hj]
  unfold xWatch_comes
  rw [wrA_nat (by omega) (by omega), obind_some, wrA_nat (by omega) (by omega), obind_some, ← hG, rdR_of hr1 hK, obind_some, xRoad_isDone_eq hN ok X1 hd hw, obind_some]
  cases e1 : doneS rd d w
  · refine ⟨G, by simp (disch := omega) [w32_of, bit_at, rdA_nat, wrA_nat, obind_some, outR_eq], no (by rw [e1]; rfl)⟩
  · rw [if_neg (by decide), xWatch_isReady_eq hN ok X1 hr1 hK a3 (by omega) hb.eo hd readyB_iff, obind_some]
    cases e2 : readyB rd s.eo d
    · refine ⟨G, by simp (disch := omega) [w32_of, bit_at, rdA_nat, wrA_nat, obind_some, outR_eq], no (by rw [e1, e2]; rfl)⟩
    · have hlb := lineB (lw := lw) (drawn := drawn) (k := k) (w := w) ok hlw hM0 hmo hd hb
      have hbb := begS_bd ok hM0 hb.eo hb.fr (w := w) hd
      obtain ⟨b, hbn⟩ : ∃ b : Nat, begS rd s.eo s.fr d w = b := ⟨(begS rd s.eo s.fr d w).toNat, by omega⟩
      have e3 : comesS rd lw more drawn k d w s = lineS rd lw more drawn k d w s b := by unfold comesS; rw [e1, e2, hbn]; rfl
      have hbe : 0 ≤ eoS rd s.eo d ∧ eoS rd s.eo d ≤ M := mxN_bd hM0 fun k hk => by
        have := hb.eo k (by omega)
        split <;> omega
      have hls := hlw (rd.mi d) (rd.ha d) (strS rd w) (if rd.ou d = 1 ∧ rainAt rd b = true then 1 else 0) b (rd.ou d)
      have hls : 1 ≤ lastS rd lw d w b ∧ lastS rd lw d w b ≤ 99 := hls
      have hmd := hmo d (by omega)
      have hsp := hb.sp
      have hag := hb.ag
      rw [if_pos (by decide), xc_b42_eq hN ok X1 hr1 hK a3 hM0 (by omega) hb.eo hd, obind_some, xc_b89_eq hN ok X1 hr1 hK a4 hM0 (by omega) hb.fr hw hbe, obind_some, show max (eoS rd s.eo d) (frS rd s.fr w) = (b : Int) from hbn]
      obtain ⟨G2, l1, l2, l3, l4⟩ := xWatch_lasts_eq (o := o) hN ok X1 hr1 hK (hl.mono fun f q _ _ => g1 f q) hd hw (t := b) (by omega)
      have l2' : ∀ q j, gA G2 q j = gA G q j := fun q j => by unfold gA; rw [l2]
      have X2 : XRd r G2 rd := X1.mono (fun f h1 h2 => l3 f r (by omega)) fun q j _ _ => l2' q j
      have fin : ∀ (G3 : GS) (n : Int), n = nS rd lw more drawn d w s b → (∀ q j, gA G3 q j = gA G q j) → (∀ f q, f < 310 ∨ 311 < f ∨ q ≠ o → gI G3 f q = gI G2 f q) → gI G3 310 o = (if againS rd drawn s then s.ag + 1 else s.ag) → (drawn = true → 0 < rd.loses → gI G3 311 o = s.lo * 1103515245 + 12345) → ∃ g', xWatch_comes_j192 N K o G3 k d w b n = some ((if true && true then 1 else 0), g') ∧ XW r o g' rd more drawn (lineS rd lw more drawn k d w s b) ∧ WFr o g g' := by
        intro G3 n hn q1 q2 q3 q4
        have hnb : 1 ≤ n ∧ n ≤ 298 := by
          rw [hn]; unfold nS
          simp only [Int.toNat_natCast]
          split <;> omega
        obtain ⟨m, hm⟩ : ∃ m : Nat, n = m := ⟨n.toNat, by omega⟩
        have X3 : XRd r G3 rd := X2.mono (fun f h1 h2 => q2 f r (by omega)) fun q j _ _ => by rw [q1, l2']
        have s3 : gI G3 309 o = s.sp := by rw [q2 _ _ (by omega), l3 _ _ (by omega), g1, hx.sp]
        obtain ⟨⟨a, g'⟩, w1, w2, w3, w4, w5⟩ := x_j192_eq hN ok X3 (by rw [q2 _ _ (by omega), l3 _ _ (by omega), hr1]) hK ho hk hd hw (b := b) (n := m) (by omega) (by omega) (by rw [s3]; omega)
        dsimp only at w2 w3 w4 w5
        subst w2
        rw [hm]
        refine ⟨g', w1, XW.mk ?_ (fun j hj => ?_) (fun j hj => ?_) (fun j hj => ?_) (fun j hj => ?_) (fun j hj => ?_) (fun j hj => ?_) ?_ ?_ (fun d1 d2 => ?_) ?_ ?_ ?_, ?_, ?_, ?_⟩
        · rw [w3, if_neg (by omega), q2 _ _ (by omega), l3 _ _ (by omega), hr1]
        · rw [(w5 j).1]
          show (if j = k then (b : Int) else gA G3 (o + 1) j) = (if j = k then (b : Int) else s.be j)
          split
          · rfl
          · rw [q1, a1]
            show (if j = k then (-1 : Int) else gA g (o + 1) j) = _
            rw [if_neg ‹_›, hx.be j hj]
        · rw [(w5 j).2.1, ← hm, hn]
          show (if j = k then (b : Int) + nS rd lw more drawn d w s b else gA G3 (o + 2) j) = (if j = k then (b : Int) + nS rd lw more drawn d w s b else s.en j)
          split
          · rfl
          · rw [q1, a2]
            show (if j = k then (-1 : Int) else gA g (o + 2) j) = _
            rw [if_neg ‹_›, hx.en j hj]
        · rw [(w5 j).2.2.1, ← hm, hn]
          show (if j = d then (b : Int) + nS rd lw more drawn d w s b else gA G3 (o + 3) j) = (if j = d then (b : Int) + nS rd lw more drawn d w s b else s.eo j)
          split
          · rfl
          · rw [q1, a3 j hj]
        · rw [(w5 j).2.2.2.1, ← hm, hn]
          show (if j < rd.P ∧ w.testBit j = true then (b : Int) + nS rd lw more drawn d w s b else gA G3 (o + 4) j) = (if j < rd.P ∧ w.testBit j = true then (b : Int) + nS rd lw more drawn d w s b else s.fr j)
          rw [q1, a4 j hj]
        · rw [(w5 j).2.2.2.2.1, ← hm, hn]
          show (if j < rd.P ∧ w.testBit j = true then gA G3 (o + 5) j + rnS rd d b (nS rd lw more drawn d w s b) else gA G3 (o + 5) j) = (if j < rd.P ∧ w.testBit j = true then s.we j + rnS rd d b (nS rd lw more drawn d w s b) else s.we j)
          rw [q1, g2 _ _ (by omega) (by omega), hx.we j hj]
        · rw [(w5 j).2.2.2.2.2, ← hm, hn]
          show (if j < rd.P ∧ w.testBit j = true then gA G3 (o + 6) j + nS rd lw more drawn d w s b else gA G3 (o + 6) j) = (if j < rd.P ∧ w.testBit j = true then s.bu j + nS rd lw more drawn d w s b else s.bu j)
          rw [q1, g2 _ _ (by omega) (by omega), hx.bu j hj]
        · rw [w3, if_pos ⟨rfl, rfl⟩, s3, ← hm, hn]; rfl
        · rw [w3, if_neg (by omega), q3]; rfl
        · rw [w3, if_neg (by omega), q4 d1 d2]
          show _ = (if drawn = true then s.lo * 1103515245 + 12345 else s.lo)
          rw [if_pos d1]
        · rw [w3, if_neg (by omega), q2 _ _ (by omega), l3 _ _ (by omega), g1]; exact hx.ls
        · intro d' hd'
          have u12 : gI g' 312 o = gI g 312 o := by rw [w3, if_neg (by omega), q2 _ _ (by omega), l3 _ _ (by omega), g1]
          have u13 : gI g' 313 o = gI g 313 o := by rw [w3, if_neg (by omega), q2 _ _ (by omega), l3 _ _ (by omega), g1]
          rw [u12, u13]
          exact hx.mo d' hd'
        · rw [w3, if_neg (by omega), q2 _ _ (by omega), l3 _ _ (by omega), g1]; exact hx.l2
        · intro f q hf
          rw [w3, if_neg (by omega), q2 _ _ (by omega), l3 _ _ (by omega), g1]
        · intro f q hq1 hq2
          rw [w3, if_neg (by omega), q2 _ _ (by omega), l4 _ _ hq2, g1]
        · intro q j hq
          rw [w4 _ _ hq, q1, g2 _ _ (by omega) (by omega)]
      have key : ∃ g', xWatch_comes_j155 N K o G2 k d w b (more d) (lastS rd lw d w b) = some ((if true && true then 1 else 0), g') ∧ XW r o g' rd more drawn (lineS rd lw more drawn k d w s b) ∧ WFr o g g' := by
        have v14 : gI G2 314 o = if drawn then rd.loses else 0 := by rw [l3 _ _ (by omega), g1]; exact hx.ls
        have v10 : gI G2 310 o = s.ag := by rw [l3 _ _ (by omega), g1]; exact hx.ag
        have hlo := ok.loses
        unfold xWatch_comes_j155
        rw [v14]
        cases hdr : drawn
        · rw [show (if false = true then rd.loses else (0 : Int)) = 0 from rfl, w32_z, if_pos (by omega)]
          subst hdr
          exact fin G2 _ (by simp [nS, againS]) l2' (fun _ _ _ => rfl) (by rw [v10]; simp [againS]) (fun h => by cases h)
        · subst hdr
          rw [show (if true = true then rd.loses else (0 : Int)) = rd.loses from rfl, w32_of (by omega) (by omega)]
          have hm0 := hdm rfl d (by omega)
          by_cases e5 : rd.loses ≤ 0
          · rw [if_pos e5]
            have hdw := drwS_bd s.lo
            have e6 : againS rd true s = false := by unfold againS; rw [decide_eq_false (by omega)]; rfl
            exact fin G2 _ (by simp [nS, e6]) l2' (fun _ _ _ => rfl) (by rw [v10, e6]; rfl) (fun _ h => by omega)
          · rw [if_neg e5]
            have v11 : gI G2 311 o = s.lo := by rw [l3 _ _ (by omega), g1]; exact hx.lo rfl (by omega)
            have hdw := drwS_bd s.lo
            unfold xWatch_draw
            rw [obind_some]
            dsimp only
            rw [v11, show gI (sI G2 311 o (s.lo * 1103515245 + 12345)) 311 o = s.lo * 1103515245 + 12345 by simp [gI_sI], show gI (sI G2 311 o (s.lo * 1103515245 + 12345)) 314 o = rd.loses by rw [gI_sI, if_neg (by omega), v14]; rfl, show gI (sI G2 311 o (s.lo * 1103515245 + 12345)) 310 o = s.ag by rw [gI_sI, if_neg (by omega), v10], show i_rem (i_and (i_shr (s.lo * 1103515245 + 12345) 16) 32767) 16 = drwS s.lo from rfl, w32_of (by omega) (by omega), w32_of (by omega) (by omega)]
            by_cases e6 : rd.loses ≤ drwS s.lo
            · rw [if_pos e6]
              have e7 : againS rd true s = false := by unfold againS; rw [decide_eq_false (by omega)]; rfl
              refine fin _ _ (by simp [nS, e7]) l2' (fun f q hf => by rw [gI_sI, if_neg (by omega)]) ?_ (fun _ _ => by simp [gI_sI])
              rw [gI_sI, if_neg (by omega), v10, e7]; rfl
            · rw [if_neg e6]
              have e7 : againS rd true s = true := by unfold againS; rw [decide_eq_true (by omega)]; rfl
              refine fin _ _ (by simp [nS, e7, hm0]) l2' (fun f q hf => by rw [gI_sI, if_neg (by omega), gI_sI, if_neg (by omega)]) ?_ (fun _ _ => by simp [gI_sI])
              rw [gI_sI, if_pos ⟨rfl, rfl⟩, e7]; rfl
      rw [l1, obind_some, e3]
      dsimp only
      have hl2 := hx.l2
      have hmo2 := hx.mo d (by omega)
      have v12 : gI G2 312 o = gI g 312 o := by rw [l3 _ _ (by omega), g1]
      have v13 : gI G2 313 o = gI g 313 o := by rw [l3 _ _ (by omega), g1]
      rw [v12, v13, w32_of (by omega) (by omega), w32_of (by omega) (by omega)]
      by_cases e8 : (d : Int) = gI g 312 o
      · rw [if_neg (by omega)]
        rw [if_pos e8] at hmo2
        rw [hmo2]; exact key
      · rw [if_pos e8]
        rw [if_neg e8] at hmo2
        rw [hmo2]; exact key
