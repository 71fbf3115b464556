set_option maxRecDepth 100000
/-! PLAIN 25: urgent deeds; evenings -/
variable {N : Nat} {K : Nat → Nat} {t z r o : Nat} {g gm g1 gm1 : GS} {a1 a2 a3 a4 a5 a6 v w : Int} {a : Ab} {rd : Rd} {lw : Int → Int → Int → Int → Int → Int → Int} {s : Wt} {p : Pl}
theorem MFs.ms {g' : GS} (h : MFs gm g') (h0 : ∀ d : Nat, gA g' 35 d = gA gm 35 d) : MSame gm g' := ⟨⟨fun f hf => h.1 f 0 (by omega) (by omega), fun q k hq => by
  by_cases e : q = 35
  · subst e; exact h0 k
  · exact h.2 q k (by omega) (by omega) (by omega)⟩, fun k => h.2 _ _ (by omega) (by omega) (by omega)⟩
theorem Inv.valM {gx gmx : GS} (h : Inv N t K z g gm a) (hx : XSame z g gx) (hm : MFs (sI gm 900 0 0) gmx) (h0 : ∀ d : Nat, d < 12 → gA gmx 35 d = 0) (h394 : 394 ≤ z) : Inv N (t + 1) K z gx gmx a := by
  have e : gmx = gmx := rfl
  obtain ⟨gy, hy⟩ : ∃ gy : GS, gy = (gmx.1, fun o k => if o = 35 then gA gm 35 k else gmx.2 o k) := ⟨_, rfl⟩
  have yI : ∀ f q, gI gy f q = gI gmx f q := by subst hy; exact fun _ _ => rfl
  have yA : ∀ q k, gA gy q k = if q = 35 then gA gm 35 k else gA gmx q k := by subst hy; exact fun _ _ => rfl
  have hM : MSame gm gy := (MSame.th).trans ⟨⟨fun f hf => by rw [yI]; exact hm.1 f 0 (by omega) (by omega), fun q k hq => by
    rw [yA]
    by_cases e : q = 35
    · rw [if_pos e, e]; rfl
    · rw [if_neg e]; exact hm.2 q k (by omega) (by omega) (by omega)⟩, fun k => by rw [yA, if_neg (by omega)]; exact hm.2 _ _ (by omega) (by omega) (by omega)⟩
  have I := h.val0 hx hM h394
  have aN : ∀ q k, q ≠ 35 → gA gmx q k = gA gy q k := fun q k hq => by rw [yA, if_neg hq]
  have iN : ∀ f, gI gmx f 0 = gI gy f 0 := fun f => (yI f 0).symm
  exact Inv.mk I.r12 I.kr I.r0 I.rz I.xr (I.mr.mono (fun f _ _ => iN f) fun q k _ _ _ _ => aN q k (by omega)) I.ok I.lwo I.xl (I.ml.mono (iN _) (fun k => aN _ _ (by omega)) fun k => aN _ _ (by omega)) I.pok I.xp (I.mp.mono (iN _) fun k => aN _ _ (by omega)) I.c20 I.xc (by rw [iN]; exact I.mc) I.b6 I.bok I.xb (fun i hi => (I.mb i hi).mono fun k => aN _ _ (by omega)) I.k3 I.xk (by rw [iN]; exact I.mk3) I.b7 I.b8 I.ic20 I.xic (fun q hq => by rw [aN _ _ (by omega)]; exact I.mic q hq) I.iok I.xim (fun q hq => (I.mim q hq).mono fun k => aN _ _ (by omega)) I.ibok I.xib (fun q i hq hi h2 => (I.mib q i hq hi h2).mono fun k => aN _ _ (by omega)) (by obtain ⟨n, n1, n2, n3⟩ := I.fd; exact ⟨n, n1, n2, by rw [iN]; exact n3⟩) (fun k hk => by rw [aN _ _ (by omega)]; exact I.tp k hk) (by rw [iN]; exact I.pl) (by rw [iN]; exact I.bk) (fun s hs => by rw [aN _ _ (by omega)]; exact I.sn s hs) (fun j hj => by rw [aN _ _ (by omega)]; exact I.rf j hj) I.w23 I.wlo h0 I.zb
theorem slack_inv (hN : 100000000000000000000 ≤ N) (h : Inv N t K z g gm a) {gq gu : GS} (w1 : WFr 14 g gq) (w2 : MFs (sI gm 900 0 0) gu) (w3 : ∀ e : Nat, e < 12 → gA gu 35 e = 0) {d : Nat} (hd : d < a.rd.D) : ∃ gx gm1 v, x_slackOf N K gq d = some (v, gx) ∧ m_slackOf N gu d = some (v, gm1) ∧ -1 ≤ v ∧ v ≤ 99 ∧ WFr 14 gq gx ∧ MFs gu gm1 ∧ ∀ d : Nat, d < 12 → gA gm1 35 d = 0 := by
  have hr := h.r0
  exact slack_eq (K := K) (z := z) hN h.ok h.lwo h.pok (by rw [w1.1 _ _ (by omega)]; exact h.r12) (w1.xr h.xr (by omega)) h.kr (w1.xl h.xl) (h.xp.mono (w1.1 _ _ (by omega)) (fun k => w1.2.2 _ _ (by omega)) fun k => w1.2.2 _ _ (by omega)) (by omega) (w2.mr (mrd_th h.mr)) (w2.ml (h.ml.mono (by rw [gI_sI, if_neg (by omega)]) (fun _ => rfl) fun _ => rfl)) (w2.mp (h.mp.mono (by rw [gI_sI, if_neg (by omega)]) fun _ => rfl)) w3 hd
theorem WFr.refl : WFr o g g := ⟨fun _ _ _ => rfl, fun _ _ _ _ => rfl, fun _ _ _ => rfl⟩
theorem MFs.refl : MFs g g := ⟨fun _ _ _ _ => rfl, fun _ _ _ _ _ => rfl⟩
theorem s_slack (hN : 100000000000000000000 ≤ N) (h : Inv N t K z g gm a) (h394 : 394 ≤ z) (ht : t < 64) (e1 : w32 a1 = a1) : StepOK N t (lc_17 N K z g gm a1 a2 a3 a4 a5 a6) := by
  by_cases hc : 0 ≤ a1 ∧ a1 < a.rd.D
  · obtain ⟨d, rfl⟩ := nat_of hc.1
    have hd : d < a.rd.D := by omega
    obtain ⟨gx, gm1, v, q1, q2, q3, q4, q5, q6, q7⟩ := slack_inv hN h .refl .refl h.mo hd
    refine o_slack_v (v := v) (w := v) (g1 := gx) (gm1 := gm1) ?_ ?_ (by rw [q6.1 _ _ (by omega) (by omega)]; exact th0) rfl (h.valM q5.xs.out q6 q7 h394)
    · unfold x_slack
      rw [x_deedOf_ok h hd, obind_some]
      dsimp only [thT]
      rw [q1, obind_some]
    · unfold m_slack
      rw [m_isDeed_ok h hd, obind_some, if_pos wz1, q2, obind_some]
  · refine o_slack_r0 (w := 0) ?_ ?_ h394 ht h
    · unfold x_slack
      rw [x_deedOf_no h e1 hc]
      rfl
    · unfold m_slack
      rw [m_isDeed_no h e1 hc, obind_some, if_neg wz0]
theorem s_urgent (hN : 100000000000000000000 ≤ N) (h : Inv N t K z g gm a) (h394 : 394 ≤ z) : StepOK N t (lc_18 N K z g gm a1 a2 a3 a4 a5 a6) := by
  have hD := h.ok.D
  have hr := h.r0
  obtain ⟨e, f, z1, z2, z3, z4, z5, z6⟩ := loop_two (B := fun q => x_urgent_b4 N K q.1 q.2.1 q.2.2) (C := fun q => m_urgent_b9 N q.1 q.2.1 q.2.2) (fun i q u => q.2.2 = (i : Int) ∧ u.2.2 = (i : Int) ∧ (∃ b : Nat, b < 2 ^ i ∧ q.2.1 = b ∧ u.2.1 = b) ∧ WFr 14 g q.1 ∧ MFs (sI gm 900 0 0) u.1 ∧ ∀ e : Nat, e < 12 → gA u.1 35 e = 0) (fun e f => e.1 = f.1 ∧ WFr 14 g e.2 ∧ MFs (sI gm 900 0 0) f.2 ∧ ∀ e : Nat, e < 12 → gA f.2 35 e = 0) a.rd.D (fun i q u hi hI => by
    obtain ⟨gq, j1, j2⟩ := q
    obtain ⟨gu, k1, k2⟩ := u
    obtain ⟨rfl, rfl, ⟨b, hb, rfl, rfl⟩, w1, w2, w3⟩ := hI
    dsimp only at w1 w2 w3
    have hp12 : 2 ^ i ≤ 2 ^ 12 := Nat.pow_le_pow_right (by omega) (by omega)
    have i12 : gI gq 12 0 = a.r := by rw [w1.1 _ _ (by omega)]; exact h.r12
    have xr := w1.xr h.xr (by omega)
    have mr := w2.mr (mrd_th h.mr)
    by_cases c : i = a.rd.D
    · right
      subst c
      refine ⟨((b : Int), gq), ((b : Int), gu), ?_, ?_, rfl, w1, w2, w3⟩
      · unfold x_urgent_b4
        dsimp only
        rw [rdR_of i12 h.kr, obind_some, xr.D, if_pos (by omega)]; rfl
      · unfold m_urgent_b9
        dsimp only
        rw [mr.D, if_pos (by omega)]; rfl
    · left
      obtain ⟨gx, gm1, v, q1, q2, q3, q4, q5, q6, q7⟩ := slack_inv hN h w1 w2 w3 (d := i) (by omega)
      have hsh := shl_one (k := i) (by omega)
      by_cases c0 : v = 0
      · refine ⟨by omega, (gx, ((b ||| 2 ^ i : Nat) : Int), (i : Int) + 1), (gm1, ((b ||| 2 ^ i : Nat) : Int), (i : Int) + 1), ?_, ?_, by dsimp only; omega, by dsimp only; omega, ⟨b ||| 2 ^ i, Nat.or_lt_two_pow (by rw [Nat.pow_succ]; omega) (by rw [Nat.pow_succ]; have := Nat.pow_pos (a := 2) (n := i) (by omega); omega), rfl, rfl⟩, w1.trans q5, w2.trans q6, q7⟩
        · unfold x_urgent_b4
          dsimp only
          rw [rdR_of i12 h.kr, obind_some, xr.D, w32_of (by omega) (by omega), w32_of (by omega) (by omega), if_neg (by omega), q1, obind_some]
          dsimp only
          rw [w32_of (by omega) (by omega), if_neg (by omega), hsh, i_or_nat (by omega) (by omega)]
        · unfold m_urgent_b9 m_urgent_j33
          dsimp only
          rw [mr.D, w32_of (by omega) (by omega), w32_of (by omega) (by omega), if_neg (by omega), q2, obind_some]
          dsimp only
          rw [w32_of (by omega) (by omega), if_neg (by omega), hsh, i_or_nat (by omega) (by omega)]
      · have h0 : i_or (b : Int) 0 = b := by
          have := i_or_nat (a := b) (b := 0) (by omega) (by omega)
          rw [Nat.or_zero] at this
          exact this
        refine ⟨by omega, (gx, (b : Int), (i : Int) + 1), (gm1, (b : Int), (i : Int) + 1), ?_, ?_, by dsimp only; omega, by dsimp only; omega, ⟨b, by rw [Nat.pow_succ]; omega, rfl, rfl⟩, w1.trans q5, w2.trans q6, q7⟩
        · unfold x_urgent_b4
          dsimp only
          rw [rdR_of i12 h.kr, obind_some, xr.D, w32_of (by omega) (by omega), w32_of (by omega) (by omega), if_neg (by omega), q1, obind_some]
          dsimp only
          rw [w32_of (by omega) (by omega), if_pos (by omega)]
        · unfold m_urgent_b9 m_urgent_j33
          dsimp only
          rw [mr.D, w32_of (by omega) (by omega), w32_of (by omega) (by omega), if_neg (by omega), q2, obind_some]
          dsimp only
          rw [w32_of (by omega) (by omega), if_pos (by omega), h0]) N (g, 0, 0) (sI gm 900 0 0, 0, 0) ⟨rfl, rfl, ⟨0, by decide, rfl, rfl⟩, .refl, .refl, h.mo⟩ (by omega)
  refine ⟨((K, z, e.2), f.2), ?_, a, h.valM z4.xs z5 z6 h394⟩
  unfold lc_18 x_urgent m_urgent
  rw [z1, z2, obind_some, obind_some, z3, if_pos rfl]
/-- the plan, by draws -/
theorem lost_eq (hN : 100000000000000000000 ≤ N) (h : Inv N t K z g gm a) {gq gu : GS} (w1 : WFr 14 g gq) (w2 : MFr (sI gm 900 0 0) gu) (seed : Int) : ∃ gx gm1 s s', x_lost N K gq seed = some gx ∧ m_goes N (sI gu 968 0 seed) 1 = some (s'.sp, gm1) ∧ XW a.r 14 gx a.rd (fun _ => 0) true s ∧ MW gm1 (fun _ => 0) s' ∧ WtE a.p.n s s' ∧ WtB 3600 s ∧ LnOK a.rd a.p a.p.n s ∧ WFr 14 g gx ∧ MFr (sI gm 900 0 0) gm1 := by
  have hr := h.r0
  have w2' : MFr (sI gm 900 0 0) (sI gu 968 0 seed) := ⟨fun f q h1 h2 => by rw [gI_sI, if_neg (by omega)]; exact w2.1 f q h1 h2, w2.2⟩
  obtain ⟨gs, s1, s2, s3, s4⟩ := xWatch_starts_eq (N := N) (r := a.r) (o := 14) (g := gq) (rd := a.rd) hN seed
  have F1 : WFr 14 g gs := w1.trans s2
  have xr := F1.xr h.xr (by omega)
  have xrl : gI (sI gs 311 14 seed) 821 a.r = a.rd.loses := by rw [gI_sI, if_neg (by omega)]; exact xr.loses
  obtain ⟨G, hG⟩ : ∃ G, G = sI (sI gs 311 14 seed) 314 14 a.rd.loses := ⟨_, rfl⟩
  have F2 : WFr 14 g G := by
    subst hG
    exact ⟨fun f q hf => by rw [gI_sI, if_neg (by omega), gI_sI, if_neg (by omega)]; exact F1.1 f q hf, fun f q h1 h2 => by rw [gI_sI, if_neg (by omega), gI_sI, if_neg (by omega)]; exact F1.2.1 f q h1 h2, fun q k hq => F1.2.2 q k hq⟩
  have e68 : gI (sI gu 968 0 seed) 968 0 = seed := by rw [gI_sI, if_pos ⟨rfl, rfl⟩]
  have XL : XW a.r 14 G a.rd (fun _ => 0) true (st0 (gA gq (14 + 1)) (gA gq (14 + 2)) (gI (sI gu 968 0 seed) 968 0)) := by
    have gg : ∀ f, f ≠ 311 → f ≠ 314 → gI G f 14 = gI gs f 14 := fun f h1 h2 => by subst hG; rw [gI_sI, if_neg (by omega), gI_sI, if_neg (by omega)]
    have ga : ∀ q k, gA G q k = gA gs q k := fun q k => by subst hG; rfl
    refine XW.mk (by rw [gg _ (by omega) (by omega)]; exact s3.rr) (fun k hk => by rw [ga]; exact s3.be k hk) (fun k hk => by rw [ga]; exact s3.en k hk) (fun k hk => by rw [ga]; exact s3.eo k hk) (fun k hk => by rw [ga]; exact s3.fr k hk) (fun k hk => by rw [ga]; exact s3.we k hk) (fun k hk => by rw [ga]; exact s3.bu k hk) (by rw [gg _ (by omega) (by omega)]; exact s3.sp) (by rw [gg _ (by omega) (by omega)]; exact s3.ag) (fun _ _ => ?_) ?_ (fun e he => by rw [gg _ (by omega) (by omega), gg _ (by omega) (by omega)]; exact s3.mo e he) (by rw [gg _ (by omega) (by omega)]; exact s3.l2)
    · subst hG
      rw [gI_sI, if_neg (by omega), gI_sI, if_pos ⟨rfl, rfl⟩, e68]; rfl
    · subst hG
      rw [gI_sI, if_pos ⟨rfl, rfl⟩]; rfl
  obtain ⟨gx, gm1, s, s', x1, m1, x2, m2, e, b, l, x3, m3⟩ := gone2 (N := N) (K := K) (z := z) (gm := sI gu 968 0 seed) hN h.ok h.lwo h.pok (F2.xr h.xr (by omega)) h.kr (F2.xl h.xl) (h.xp.mono (F2.1 _ _ (by omega)) (fun k => F2.2.2 _ _ (by omega)) fun k => F2.2.2 _ _ (by omega)) (by omega) (w2'.mr (mrd_th h.mr)) (w2'.ml (h.ml.mono (by rw [gI_sI, if_neg (by omega)]) (fun _ => rfl) fun _ => rfl)) ((h.mp.mono (g' := sI gm 900 0 0) (by rw [gI_sI, if_neg (by omega)]) fun _ => rfl).mono (w2'.1 _ _ (by omega) (by omega)) fun k => w2'.2 _ _ (by omega) (by omega) (by omega)) mo0 (fun d hd => by rw [w2'.2 _ _ (by omega) (by omega) (by omega)]; exact h.mo d hd) (fun _ _ _ => rfl) XL
  refine ⟨gx, gm1, s, s', ?_, m1, x2, m2, e, b, l, F2.trans x3, w2'.trans m3⟩
  unfold x_lost xWatch_losing
  rw [rdR_of (by rw [w1.1 _ _ (by omega)]; exact h.r12) h.kr, obind_some, s1, obind_some, rdR_of (r := a.r) (by rw [gI_sI, if_neg (by omega)]; exact s3.rr) h.kr, obind_some, xrl, obind_some, ← hG, x1, obind_some]
theorem MFr.refl' : MFr g g := ⟨fun _ _ _ _ => rfl, fun _ _ _ _ _ => rfl⟩
theorem wetAll_eq (hN : 100000000000000000000 ≤ N) {s s' : Wt} {gx gm1 : GS} {more : Nat → Int} {drawn : Bool} (ok : RdOK rd) (x2 : XW r 14 gx rd more drawn s) (m2 : MW gm1 more s') (mr : MRd gm1 rd) (e : s.we = s'.we) (b : WtB 3600 s) (l : LnOK rd p p.n s) : ∃ v, xWatch_allWet N 14 gx = some v ∧ m_wetAll N gm1 = some v := by
  have hP := ok.P
  have hs : sumN 4 s.we = sumN rd.P s.we := sumN_stop hP fun k h1 _ => l.we k h1
  refine ⟨sumN rd.P s.we, ?_, ?_⟩
  · rw [← hs]
    unfold xWatch_allWet
    refine loop_up' (N := N) (fun i => (sumN i s.we, (i : Int))) 4 _ rfl (fun i hi => ?_) ?_ (by omega)
    · unfold xWatch_allWet_b4
      dsimp only
      rw [w32_of (by omega) (by omega), w32_of (by omega) (by omega), if_neg (by omega), rdA_val (x2.we i hi) (by omega) (by omega), obind_some]; rfl
    · unfold xWatch_allWet_b4
      dsimp only
      rw [if_pos (by decide)]; rfl
  · unfold m_wetAll
    refine loop_up' (N := N) (fun i => (sumN i s.we, (i : Int))) rd.P _ rfl (fun i hi => ?_) ?_ (by omega)
    · unfold m_wetAll_b4
      dsimp only
      rw [mr.P, w32_of (by omega) (by omega), w32_of (by omega) (by omega), if_neg (by omega), rdA_val (by rw [m2.we i (by omega), ← e]) (by omega) (by omega), obind_some]; rfl
    · unfold m_wetAll_b4
      dsimp only
      rw [mr.P, if_pos (by omega)]; rfl
theorem s_evening (hN : 100000000000000000000 ≤ N) (h : Inv N t K z g gm a) (h394 : 394 ≤ z) (ht : t < 64) (e2 : w32 a2 = a2) : StepOK N t (lc_39 N K z g gm a1 a2 a3 a4 a5 a6) := by
  by_cases hc : 0 ≤ a2 ∧ a2 ≤ 2
  · obtain ⟨gx, gm1, s, s', x1, m1, x2, m2, e, b, l, x3, m3⟩ := lost_eq hN h .refl .refl' a1
    obtain ⟨v, v1, v2⟩ := wetAll_eq hN h.ok x2 m2 (m3.mr (mrd_th h.mr)) e.we b l
    have ms := (MSame.th).trans m3.ms
    have tz : gI gm1 900 0 = 0 := by rw [m3.1 _ _ (by omega) (by omega)]; exact th0
    have c0 : a2 = 0 ∨ a2 = 1 ∨ a2 = 2 := by omega
    have X := x_within_ok (g := g) (l1 := a2) (l2 := 0) (l3 := 2) (by rw [e2, w32_z]; omega) (by rw [e2, w32_of (by omega) (by omega)]; omega)
    have Y := m_within_eq (l1 := a2) (l2 := 0) (l3 := 2)
    rw [e2, w32_z, w32_of (by omega) (by omega), if_pos hc] at Y
    rcases c0 with q | q | q <;> subst q
    · refine o_evening_v (v := s.sp) (w := s'.sp) (g1 := gx) (gm1 := gm1) ?_ ?_ tz (by rw [e.sp]) (h.val x3.xs ms h394)
      · unfold x_evening
        rw [X, obind_some]
        dsimp only [thT]
        rw [x1, obind_some, if_neg wz0, x2.sp]
      · unfold m_evening
        rw [Y, obind_some, m_may_ok th0, obind_some, if_pos wz1, m1, obind_some, if_neg wz0]
    · refine o_evening_v (v := v) (w := v) (g1 := gx) (gm1 := gm1) ?_ ?_ tz rfl (h.val x3.xs ms h394)
      · unfold x_evening
        rw [X, obind_some]
        dsimp only [thT]
        rw [x1, obind_some, if_pos wz1, if_neg (by decide), v1, obind_some]
      · unfold m_evening
        rw [Y, obind_some, m_may_ok th0, obind_some, if_pos wz1, m1, obind_some, if_pos wz1, if_neg (by decide)]
        dsimp only
        rw [v2, obind_some]
    · refine o_evening_v (v := s.ag) (w := s'.ag) (g1 := gx) (gm1 := gm1) ?_ ?_ tz (by rw [e.ag]) (h.val x3.xs ms h394)
      · unfold x_evening
        rw [X, obind_some]
        dsimp only [thT]
        rw [x1, obind_some, if_pos (by decide), if_pos (by decide), x2.ag]
      · unfold m_evening
        rw [Y, obind_some, m_may_ok th0, obind_some, if_pos wz1, m1, obind_some, if_pos (by decide), if_pos (by decide)]
        dsimp only
        rw [m2.ag]
  · refine o_evening_r1 (w := 0) ?_ ?_ h394 ht h
    · unfold x_evening
      rw [x_within_no (by rw [e2, w32_z, w32_of (by omega) (by omega)]; exact hc)]
      rfl
    · unfold m_evening
      rw [m_within_eq, e2, w32_z, w32_of (by omega) (by omega), if_neg hc, obind_some, m_may_no1 th0 (by omega), obind_some, if_neg wz0]
      rfl
