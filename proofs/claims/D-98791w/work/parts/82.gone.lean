set_option maxRecDepth 100000
/-! PLAIN 23: by the plan -/
variable {N : Nat} {K : Nat → Nat} {t z r o : Nat} {g gm g1 gm1 : GS} {a1 a2 a3 a4 a5 a6 v w : Int} {a : Ab} {rd : Rd} {lw : Int → Int → Int → Int → Int → Int → Int} {more : Nat → Int} {drawn : Bool} {s : Wt} {M : Int} {p : Pl}
/-- what a plan gone through tells of its lines -/
def LnOK (rd : Rd) (p : Pl) (i : Nat) (s : Wt) : Prop := (∀ d : Nat, s.eo d = -1 ∨ ∃ k, k < i ∧ p.de k = d) ∧ (∀ k, k < i → (s.be k = -1 ∧ s.eo (p.de k) = -1) ∨ (0 ≤ s.be k ∧ s.be k ≤ 4000 ∧ 0 ≤ s.eo (p.de k))) ∧ (∀ q, rd.P ≤ q → s.we q = 0)
theorem LnOK.no {rd : Rd} {p : Pl} {i : Nat} {s : Wt} (h_ : LnOK rd p i s) : ∀ d : Nat, s.eo d = -1 ∨ ∃ k, k < i ∧ p.de k = d := h_.1
theorem LnOK.ln {rd : Rd} {p : Pl} {i : Nat} {s : Wt} (h_ : LnOK rd p i s) : ∀ k, k < i → (s.be k = -1 ∧ s.eo (p.de k) = -1) ∨ (0 ≤ s.be k ∧ s.be k ≤ 4000 ∧ 0 ≤ s.eo (p.de k)) := h_.2.1
theorem LnOK.we {rd : Rd} {p : Pl} {i : Nat} {s : Wt} (h_ : LnOK rd p i s) : ∀ q, rd.P ≤ q → s.we q = 0 := h_.2.2
theorem LnOK.mk {rd : Rd} {p : Pl} {i : Nat} {s : Wt} (no_ : ∀ d : Nat, s.eo d = -1 ∨ ∃ k, k < i ∧ p.de k = d) (ln_ : ∀ k, k < i → (s.be k = -1 ∧ s.eo (p.de k) = -1) ∨ (0 ≤ s.be k ∧ s.be k ≤ 4000 ∧ 0 ≤ s.eo (p.de k))) (we_ : ∀ q, rd.P ≤ q → s.we q = 0) : LnOK rd p i s := ⟨no_, ln_, we_⟩
theorem goesL (ok : RdOK rd) (hlw : lwOK lw) (hmo : ∀ d, d < 12 → 0 ≤ more d ∧ more d ≤ 100) (hp : PlOK rd p) (hb : WtB 0 s) (h0 : LnOK rd p 0 s) : ∀ i, i ≤ p.n → LnOK rd p i (goesS rd lw more drawn p i s)
  | 0, _ => h0
  | i + 1, hi => by
    have hn := hp.n
    have hD := ok.D
    have ih := goesL ok hlw hmo hp hb h0 i (by omega)
    have hB := goesB (drawn := drawn) ok hlw (Int.le_refl 0) hmo hp hb i (by omega)
    have hdi := hp.de i (by omega)
    show LnOK rd p (i + 1) (comesS rd lw more drawn i (p.de i) (p.wh i) (goesS rd lw more drawn p i s))
    generalize goesS rd lw more drawn p i s = s1 at ih hB ⊢
    have hnew : s1.eo (p.de i) = -1 := by
      rcases ih.no (p.de i) with q | ⟨k, q1, q2⟩
      · exact q
      · exact absurd q2 (hp.di k i q1 (by omega))
    have hbb := begS_bd (w := p.wh i) ok (M := 0 + 300 * (i : Int)) (by omega) hB.eo hB.fr hdi
    unfold comesS
    split
    · have hls := hlw (rd.mi (p.de i)) (rd.ha (p.de i)) (strS rd (p.wh i)) (if rd.ou (p.de i) = 1 ∧ rainAt rd (begS rd s1.eo s1.fr (p.de i) (p.wh i)).toNat = true then 1 else 0) (begS rd s1.eo s1.fr (p.de i) (p.wh i)).toNat (rd.ou (p.de i))
      have hmd := hmo (p.de i) (by omega)
      have h4 : 1 ≤ nS rd lw more drawn (p.de i) (p.wh i) s1 (begS rd s1.eo s1.fr (p.de i) (p.wh i)) := by
        unfold nS lastS
        split <;> omega
      unfold lineS
      generalize nS rd lw more drawn (p.de i) (p.wh i) s1 (begS rd s1.eo s1.fr (p.de i) (p.wh i)) = n at h4 ⊢
      generalize begS rd s1.eo s1.fr (p.de i) (p.wh i) = b at hbb ⊢
      refine LnOK.mk (fun d => ?_) (fun k hk => ?_) (fun q hq => ?_)
      · show (if d = p.de i then b + n else s1.eo d) = -1 ∨ _
        by_cases e : d = p.de i
        · exact Or.inr ⟨i, by omega, e.symm⟩
        · rw [if_neg e]
          rcases ih.no d with q | ⟨k, q1, q2⟩
          · exact Or.inl q
          · exact Or.inr ⟨k, by omega, q2⟩
      · show ((if k = i then b else s1.be k) = -1 ∧ (if p.de k = p.de i then b + n else s1.eo (p.de k)) = -1) ∨ (0 ≤ (if k = i then b else s1.be k) ∧ (if k = i then b else s1.be k) ≤ 4000 ∧ 0 ≤ (if p.de k = p.de i then b + n else s1.eo (p.de k)))
        by_cases e : k = i
        · subst e
          rw [if_pos rfl, if_pos rfl]
          exact Or.inr (by omega)
        · rw [if_neg e, if_neg (hp.di k i (by omega) (by omega))]
          exact ih.ln k (by omega)
      · show (if q < rd.P ∧ (p.wh i).testBit q = true then s1.we q + rnS rd (p.de i) b n else s1.we q) = 0
        rw [if_neg (by omega), ih.we q hq]
    · refine LnOK.mk (fun d => ?_) (fun k hk => ?_) (fun q hq => ih.we q hq)
      · rcases ih.no d with q | ⟨k, q1, q2⟩
        · exact Or.inl q
        · exact Or.inr ⟨k, by omega, q2⟩
      · show ((if k = i then -1 else s1.be k) = -1 ∧ s1.eo (p.de k) = -1) ∨ (0 ≤ (if k = i then -1 else s1.be k) ∧ (if k = i then -1 else s1.be k) ≤ 4000 ∧ 0 ≤ s1.eo (p.de k))
        by_cases e : k = i
        · subst e
          rw [if_pos rfl]
          exact Or.inl ⟨rfl, hnew⟩
        · rw [if_neg e]
          exact ih.ln k (by omega)
theorem st0L (be en : Nat → Int) (lo : Int) : LnOK rd p 0 (st0 be en lo) := LnOK.mk (fun _ => Or.inl rfl) (fun k hk => by omega) fun _ _ => rfl
theorem WFr.xs {g' : GS} (h : WFr 14 g g') : XSame z g g' := ⟨⟨fun f q _ hq => h.2.1 f q (by omega) (by omega), fun f q _ h1 h2 => h.2.1 f q (by omega) (by omega), fun q k _ _ _ hq => h.2.2 q k (by omega), fun f q _ hf => h.1 f q (by omega)⟩, fun k => h.2.2 _ _ (by omega)⟩
theorem MFr.ms {g' : GS} (h : MFr gm g') : MSame gm g' := ⟨⟨fun f hf => h.1 f 0 (by omega) (by omega), fun q k hq => h.2 q k (by omega) (by omega) (by omega)⟩, fun k => h.2 _ _ (by omega) (by omega) (by omega)⟩
/-- the plan is gone through on both sides -/
theorem gone2 (hN : 100000000000000000000 ≤ N) (ok : RdOK rd) (hlw : lwOK lw) (hp : PlOK rd p) (xr : XRd r g rd) (hK : K r = 9) (xl : XLw K z g lw) (xp : XPl 3 g p) (hr : 22 ≤ r) (mr : MRd gm rd) (ml : MLw N gm lw) (mp : MPl gm p) (hmo : ∀ d, d < 12 → 0 ≤ more d ∧ more d ≤ 100) (hm : ∀ d : Nat, d < 12 → gA gm 35 d = more d) (hdm : drawn = true → ∀ d, d < 12 → more d = 0) {be en : Nat → Int} (g0 : XW r 14 g rd more drawn (st0 be en (gI gm 968 0))) : ∃ gx gm1 s s', xWatch_goes N K 14 3 g = some gx ∧ m_goes N gm (if drawn then 1 else 0) = some (s'.sp, gm1) ∧ XW r 14 gx rd more drawn s ∧ MW gm1 more s' ∧ WtE p.n s s' ∧ WtB 3600 s ∧ LnOK rd p p.n s ∧ WFr 14 g gx ∧ MFr gm gm1 := by
  have hn := hp.n
  obtain ⟨gx, x1, x2, x3⟩ := xWatch_goes_eq hN ok hlw xr hK xl hp xp g0 (st0B be en _) hmo hdm hr
  obtain ⟨gm1, be', en', m1, m2, m3⟩ := m_goes_eq hN ok hlw mr ml hp mp hm hmo drawn
  have hB := goesB (drawn := drawn) ok hlw (Int.le_refl 0) hmo hp (st0B be en (gI gm 968 0)) p.n (Nat.le_refl _)
  refine ⟨gx, gm1, _, _, x1, m1, x2, m2, goesE (st0E be en be' en' (gI gm 968 0)) p.n, WtB.mk (fun i hi => ?_) (fun i hi => ?_) (fun i hi => ?_) (fun i hi => ?_) ?_ ?_, goesL ok hlw hmo hp (st0B be en _) (st0L be en _) p.n (Nat.le_refl _), x3, m3⟩
  · have := hB.eo i hi; omega
  · have := hB.fr i hi; omega
  · have := hB.we i hi; omega
  · have := hB.bu i hi; omega
  · have := hB.sp; omega
  · have := hB.ag; omega
theorem mo0 : ∀ d, d < 12 → 0 ≤ (fun _ : Nat => (0 : Int)) d ∧ (fun _ : Nat => (0 : Int)) d ≤ 100 := fun _ _ => (by decide : (0 : Int) ≤ 0 ∧ (0 : Int) ≤ 100)
/-- from what holds ahead of a call: gone, on both sides -/
theorem gone_eq (hN : 100000000000000000000 ≤ N) (h : Inv N t K z g gm a) : ∃ gx gm1 s s', x_gone N K g = some gx ∧ m_goes N (sI gm 900 0 0) 0 = some (s'.sp, gm1) ∧ XW a.r 14 gx a.rd (fun _ => 0) false s ∧ MW gm1 (fun _ => 0) s' ∧ WtE a.p.n s s' ∧ WtB 3600 s ∧ LnOK a.rd a.p a.p.n s ∧ WFr 14 g gx ∧ MFr (sI gm 900 0 0) gm1 := by
  have hr := h.r0
  obtain ⟨gs, s1, s2, s3, s4⟩ := xWatch_starts_eq (N := N) (r := a.r) (o := 14) (g := g) (rd := a.rd) hN (gI (sI gm 900 0 0) 968 0)
  obtain ⟨gx, gm1, s, s', x1, m1, x2, m2, e, b, l, x3, m3⟩ := gone2 (N := N) (K := K) (z := z) (gm := sI gm 900 0 0) hN h.ok h.lwo h.pok (s2.xr h.xr (by omega)) h.kr (s2.xl h.xl) (h.xp.mono (s2.1 _ _ (by omega)) (fun k => s2.2.2 _ _ (by omega)) fun k => s2.2.2 _ _ (by omega)) (by omega) (mrd_th h.mr) (h.ml.mono (by rw [gI_sI, if_neg (by omega)]) (fun _ => rfl) fun _ => rfl) (h.mp.mono (by rw [gI_sI, if_neg (by omega)]) fun _ => rfl) mo0 h.mo (fun q => by cases q) s3
  refine ⟨gx, gm1, s, s', ?_, m1, x2, m2, e, b, l, s2.trans x3, m3⟩
  unfold x_gone
  rw [rdR_of h.r12 h.kr, obind_some, s1, obind_some, x1, obind_some]
theorem s_span (hN : 100000000000000000000 ≤ N) (h : Inv N t K z g gm a) (h394 : 394 ≤ z) : StepOK N t (lc_13 N K z g gm a1 a2 a3 a4 a5 a6) := by
  obtain ⟨gx, gm1, s, s', x1, m1, x2, m2, e, b, l, x3, m3⟩ := gone_eq hN h
  refine ⟨((K, z, gx), gm1), ?_, a, h.val0 x3.xs ((MSame.th).trans m3.ms) h394⟩
  unfold lc_13 x_span m_span
  rw [x1, m1, obind_some, obind_some, obind_some]
  dsimp only
  rw [obind_some]
  dsimp only
  rw [x2.sp, e.sp, if_pos rfl]
theorem s_wet (hN : 100000000000000000000 ≤ N) (h : Inv N t K z g gm a) (h394 : 394 ≤ z) (ht : t < 64) (e1 : w32 a1 = a1) : StepOK N t (lc_14 N K z g gm a1 a2 a3 a4 a5 a6) := by
  have hP := h.ok.P
  by_cases hc : 0 ≤ a1 ∧ a1 < a.rd.P
  · obtain ⟨q, rfl⟩ := nat_of hc.1
    have hq : q < a.rd.P := by omega
    obtain ⟨gx, gm1, s, s', x1, m1, x2, m2, e, b, l, x3, m3⟩ := gone_eq hN h
    refine o_wet_v (v := s.we q) (w := s'.we q) (g1 := gx) (gm1 := gm1) ?_ ?_ (by rw [m3.1 _ _ (by omega) (by omega)]; exact th0) (by rw [e.we]) (h.val x3.xs ((MSame.th).trans m3.ms) h394)
    · unfold x_wet
      rw [x_personOf_ok h hq, obind_some]
      dsimp only [thT]
      rw [x1, obind_some, rdA_val (x2.we q (by omega)) (by omega) (by omega), obind_some]
    · unfold m_wet
      rw [m_isPerson_ok h hq, obind_some, if_pos wz1, m1, obind_some, rdA_val (m2.we q (by omega)) (by omega) (by omega), obind_some]
  · refine o_wet_r0 (w := 0) ?_ ?_ h394 ht h
    · unfold x_wet
      rw [x_personOf_no h e1 hc]
      rfl
    · unfold m_wet
      rw [m_isPerson_no h e1 hc, obind_some, if_neg wz0]
theorem s_idle (hN : 100000000000000000000 ≤ N) (h : Inv N t K z g gm a) (h394 : 394 ≤ z) (ht : t < 64) (e1 : w32 a1 = a1) : StepOK N t (lc_15 N K z g gm a1 a2 a3 a4 a5 a6) := by
  have hP := h.ok.P
  by_cases hc : 0 ≤ a1 ∧ a1 < a.rd.P
  · obtain ⟨q, rfl⟩ := nat_of hc.1
    have hq : q < a.rd.P := by omega
    obtain ⟨gx, gm1, s, s', x1, m1, x2, m2, e, b, l, x3, m3⟩ := gone_eq hN h
    refine o_idle_v (v := s.sp - s.bu q) (w := s'.sp - s'.bu q) (g1 := gx) (gm1 := gm1) ?_ ?_ (by rw [m3.1 _ _ (by omega) (by omega)]; exact th0) (by rw [e.bu, e.sp]) (h.val x3.xs ((MSame.th).trans m3.ms) h394)
    · unfold x_idle
      rw [x_personOf_ok h hq, obind_some]
      dsimp only [thT]
      rw [x1, obind_some, rdA_val (x2.bu q (by omega)) (by omega) (by omega), obind_some, x2.sp]
    · unfold m_idle
      rw [m_isPerson_ok h hq, obind_some, if_pos wz1, m1, obind_some, rdA_val (m2.bu q (by omega)) (by omega) (by omega), obind_some]
  · refine o_idle_r0 (w := 0) ?_ ?_ h394 ht h
    · unfold x_idle
      rw [x_personOf_no h e1 hc]
      rfl
    · unfold m_idle
      rw [m_isPerson_no h e1 hc, obind_some, if_neg wz0]
theorem s_line (hN : 100000000000000000000 ≤ N) (h : Inv N t K z g gm a) (h394 : 394 ≤ z) (ht : t < 64) (e1 : w32 a1 = a1) (e2 : w32 a2 = a2) : StepOK N t (lc_12 N K z g gm a1 a2 a3 a4 a5 a6) := by
  have hn := h.pok.n
  by_cases hc : 0 ≤ a1 ∧ a1 < a.p.n
  · obtain ⟨l0, rfl⟩ := nat_of hc.1
    have hl : l0 < a.p.n := by omega
    by_cases hb : 0 ≤ a2 ∧ a2 ≤ 4
    · obtain ⟨gx, gm1, s, s', x1, m1, x2, m2, e, b, l, x3, m3⟩ := gone_eq hN h
      have X := x_lineOf_ok h hl
      have Y := x_within_ok (g := g) (l1 := a2) (l2 := 0) (l3 := 4) (by rw [e2, w32_z]; omega) (by rw [e2, w32_of (by omega) (by omega)]; omega)
      have xp : XPl 3 gx a.p := h.xp.mono (x3.1 _ _ (by omega)) (fun k => x3.2.2 _ _ (by omega)) fun k => x3.2.2 _ _ (by omega)
      have mp : MPl (sI gm 900 0 0) a.p := h.mp.mono (by rw [gI_sI, if_neg (by omega)]) fun _ => rfl
      have r3 : gA gx 4 l0 = (a.p.de l0 : Int) := xp.de l0 hl
      have r4 : gA gx 5 l0 = (a.p.wh l0 : Int) := xp.wh l0 hl
      have r5 : gA gx 15 l0 = s.be l0 := x2.be l0 (by omega)
      have r6 : gA gx 16 l0 = s.en l0 := x2.en l0 (by omega)
      have n5 : rdA gm1 29 12 l0 = some (s.be l0) := rdA_val (by rw [m2.be l0 (by omega), e.be l0 hl]) (by omega) (by omega)
      have n6 : rdA gm1 30 12 l0 = some (s.en l0) := rdA_val (by rw [m2.en l0 (by omega), e.en l0 hl]) (by omega) (by omega)
      have mm : ∀ (w : Int) (g2 : GS), (if w32 2 ≤ w32 a2 then (m_goes N (sI gm 900 0 0) 0).bind fun c49 => if ¬w32 a2 = w32 2 then if ¬w32 a2 = w32 3 then (rdA c49.2 30 12 l0).bind fun v95 => some (v95, c49.2) else (rdA c49.2 29 12 l0).bind fun v86 => some (v86, c49.2) else (rdA c49.2 29 12 l0).bind fun v63 => if ¬w32 v63 = w32 (-1) then some (0, c49.2) else some (1, c49.2) else (rdA (sI gm 900 0 0) 26 24 (2 * (l0 : Int) + a2)).bind fun v45 => some (v45, sI gm 900 0 0)) = some (w, g2) → m_line N gm l0 a2 = some (w, g2) := by
        intro w g2 q
        unfold m_line
        rw [m_isLine_ok h hl, obind_some, if_neg wz1, m_within_eq, e2, w32_z, w32_of (by omega) (by omega), if_pos hb, obind_some, m_may_ok th0, obind_some, if_pos wz1]
        rw [e2] at q
        exact q
      have tz : gI gm1 900 0 = 0 := by rw [m3.1 _ _ (by omega) (by omega)]; exact th0
      have c0 : a2 = 0 ∨ a2 = 1 ∨ a2 = 2 ∨ a2 = 3 ∨ a2 = 4 := by omega
      rcases c0 with q | q | q | q | q <;> subst q
      · refine o_line_v (v := a.p.de l0) (w := a.p.de l0) (g1 := gx) (gm1 := sI gm 900 0 0) (by simp (disch := omega) [w32_of, bit_at, rdA_nat, wrA_nat, obind_some, outR_eq, x_line, X, Y, thT, x1, r3]) (mm _ _ ?_) th0 rfl (h.val x3.xs .th h394)
        rw [if_neg (by decide), rdA_atv (mp.de l0 hl) (by omega) (by omega) (by omega), obind_some]
      · refine o_line_v (v := a.p.wh l0) (w := a.p.wh l0) (g1 := gx) (gm1 := sI gm 900 0 0) (by simp (disch := omega) [w32_of, bit_at, rdA_nat, wrA_nat, obind_some, outR_eq, x_line, X, Y, thT, x1, r4]) (mm _ _ ?_) th0 rfl (h.val x3.xs .th h394)
        rw [if_neg (by decide), rdA_atv (mp.wh l0 hl) (by omega) (by omega) (by omega), obind_some]
      · refine o_line_v (v := if s.be l0 = -1 then 1 else 0) (w := if s.be l0 = -1 then 1 else 0) (g1 := gx) (gm1 := gm1) ?_ (mm _ _ ?_) tz rfl (h.val x3.xs ((MSame.th).trans m3.ms) h394)
        · have hbe : -1 ≤ s.be l0 ∧ s.be l0 ≤ 4000 := by rcases l.ln l0 hl with q | q <;> omega
          by_cases q : s.be l0 = -1
          · simp (disch := omega) [w32_of, bit_at, rdA_nat, wrA_nat, obind_some, outR_eq, x_line, X, Y, thT, x1, r5, q]
          · simp (disch := omega) [w32_of, bit_at, rdA_nat, wrA_nat, obind_some, outR_eq, x_line, X, Y, thT, x1, r5, q]
        · have hbe : -1 ≤ s.be l0 ∧ s.be l0 ≤ 4000 := by rcases l.ln l0 hl with q | q <;> omega
          rw [if_pos (by decide), m1, obind_some, if_neg (by decide)]
          dsimp only
          rw [n5, obind_some, w32_of (by omega) (by omega), w32_m1]
          by_cases q : s.be l0 = -1
          · rw [if_neg (by omega), if_pos q]
          · rw [if_pos q, if_neg q]
      · refine o_line_v (v := s.be l0) (w := s.be l0) (g1 := gx) (gm1 := gm1) (by simp (disch := omega) [w32_of, bit_at, rdA_nat, wrA_nat, obind_some, outR_eq, x_line, X, Y, thT, x1, r5]) (mm _ _ ?_) tz rfl (h.val x3.xs ((MSame.th).trans m3.ms) h394)
        rw [if_pos (by decide), m1, obind_some, if_pos (by decide), if_neg (by decide)]
        dsimp only
        rw [n5, obind_some]
      · refine o_line_v (v := s.en l0) (w := s.en l0) (g1 := gx) (gm1 := gm1) (by simp (disch := omega) [w32_of, bit_at, rdA_nat, wrA_nat, obind_some, outR_eq, x_line, X, Y, thT, x1, r6]) (mm _ _ ?_) tz rfl (h.val x3.xs ((MSame.th).trans m3.ms) h394)
        rw [if_pos (by decide), m1, obind_some, if_pos (by decide), if_pos (by decide)]
        dsimp only
        rw [n6, obind_some]
    · refine o_line_r1 (w := 0) ?_ ?_ h394 ht h
      · unfold x_line
        rw [x_lineOf_ok h hl, obind_some]
        dsimp only [thT]
        rw [x_within_no (by rw [e2, w32_z, w32_of (by omega) (by omega)]; exact hb)]
        rfl
      · unfold m_line
        rw [m_isLine_ok h hl, obind_some, if_neg wz1, m_within_eq, e2, w32_z, w32_of (by omega) (by omega), if_neg hb, obind_some, m_may_no1 th0 (by omega), obind_some, if_neg wz0]
        rfl
  · refine o_line_r0 (w := 0) ?_ ?_ h394 ht h
    · unfold x_line
      rw [x_lineOf_no h e1 hc]
      rfl
    · unfold m_line
      rw [m_isLine_no h e1 hc, obind_some, if_pos w32_z]
