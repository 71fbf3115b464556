set_option maxRecDepth 100000
/-! PLAIN 29: drop, undo -/
variable {N : Nat} {K : Nat → Nat} {t t' z r o : Nat} {g gm g1 gm1 : GS} {a1 a2 a3 a4 a5 a6 v w : Int} {a : Ab} {rd : Rd} {p : Pl}
theorem x_drops_eq (hN : 100000000000000000000 ≤ N) {l : Nat} (hp : XPl 3 g p) (hn : p.n ≤ 12) (hl : l < p.n) : ∃ G, xPlan_drops N 3 g l = some G ∧ gI G 202 3 = ((p.n - 1 : Nat) : Int) ∧ (∀ f q, f ≠ 202 ∨ q ≠ 3 → gI G f q = gI g f q) ∧ (∀ q k, q ≠ 4 → q ≠ 5 → gA G q k = gA g q k) ∧ ∀ k, k < p.n - 1 → gA G 4 k = gA g 4 (if k < l then k else k + 1) ∧ gA G 5 k = gA g 5 (if k < l then k else k + 1) := by
  unfold xPlan_drops
  have e0 : gI g 202 3 - 1 = ((p.n - 1 : Nat) : Int) := by rw [hp.n]; omega
  rw [e0]
  refine loop_ex (N := N) (fun i s => s.2 = ((l + i : Nat) : Int) ∧ (gI s.1 202 3 = ((p.n - 1 : Nat) : Int)) ∧ (∀ f q, f ≠ 202 ∨ q ≠ 3 → gI s.1 f q = gI g f q) ∧ (∀ q k, q ≠ 4 → q ≠ 5 → gA s.1 q k = gA g q k) ∧ (∀ k, gA s.1 4 k = gA g 4 (if l ≤ k ∧ k < l + i then k + 1 else k)) ∧ ∀ k, gA s.1 5 k = gA g 5 (if l ≤ k ∧ k < l + i then k + 1 else k)) (p.n - 1 - l) _ (fun i s hi hs => ?_) (fun s hs => ?_) ⟨rfl, by rw [gI_sI, if_pos ⟨rfl, rfl⟩], fun f q hf => by rw [gI_sI, if_neg (by omega)], fun _ _ _ _ => rfl, fun k => by rw [if_neg (by omega)]; rfl, fun k => by rw [if_neg (by omega)]; rfl⟩ (by omega)
  · obtain ⟨g1, j⟩ := s
    obtain ⟨rfl, q1, q2, q3, q4, q5⟩ := hs
    dsimp only at q1 q2 q3 q4 q5
    refine ⟨(sA (sA g1 4 (l + i) (gA g 4 (l + i + 1))) 5 (l + i) (gA g 5 (l + i + 1)), ((l + (i + 1) : Nat) : Int)), ?_, rfl, q1, q2, fun q k h1 h2 => ?_, fun k => ?_, fun k => ?_⟩
    · unfold xPlan_drops_b12
      dsimp only
      rw [q1, w32_of (by omega) (by omega), w32_of (by omega) (by omega), if_neg (by omega), rdA_atv (k := l + i + 1) (v := gA g 4 (l + i + 1)) (by rw [q4, if_neg (by omega)]) (by omega) (by omega) (by omega), obind_some, wrA_at (l + i) (by omega) (by omega) (by omega), obind_some, rdA_atv (k := l + i + 1) (v := gA g 5 (l + i + 1)) (by rw [gA_sA, if_neg (by omega), q5, if_neg (by omega)]) (by omega) (by omega) (by omega), obind_some, wrA_at (l + i) (by omega) (by omega) (by omega), obind_some]
      simp; omega
    · rw [gA_sA, if_neg (by omega), gA_sA, if_neg (by omega)]; exact q3 q k h1 h2
    · rw [gA_sA, if_neg (by omega), gA_sA]
      by_cases e : k = l + i
      · rw [if_pos ⟨rfl, e⟩, if_pos (by omega), e]
      · rw [if_neg (fun q => e q.2), q4]
        by_cases e2 : l ≤ k ∧ k < l + i
        · rw [if_pos e2, if_pos (by omega)]
        · rw [if_neg e2, if_neg (by omega)]
    · rw [gA_sA]
      by_cases e : k = l + i
      · rw [if_pos ⟨rfl, e⟩, if_pos (by omega), e]
      · rw [if_neg (fun q => e q.2), gA_sA, if_neg (by omega), q5]
        by_cases e2 : l ≤ k ∧ k < l + i
        · rw [if_pos e2, if_pos (by omega)]
        · rw [if_neg e2, if_neg (by omega)]
  · obtain ⟨g1, j⟩ := s
    obtain ⟨rfl, q1, q2, q3, q4, q5⟩ := hs
    dsimp only at q1 q2 q3 q4 q5
    refine ⟨g1, ?_, q1, q2, q3, fun k hk => ?_⟩
    · unfold xPlan_drops_b12
      dsimp only
      rw [q1, w32_of (by omega) (by omega), w32_of (by omega) (by omega), if_pos (by omega)]; rfl
    · rw [q4, q5]
      by_cases e : k < l
      · rw [if_neg (by omega), if_pos e]; exact ⟨rfl, rfl⟩
      · rw [if_pos (by omega), if_neg e]; exact ⟨rfl, rfl⟩
theorem m_drops_eq (hN : 100000000000000000000 ≤ N) {l : Nat} {n : Nat} (hg : gI gm 949 0 = n) (hn : n ≤ 11) (hl : l ≤ n) : ∃ e, loopN (fun s => m_drop_b39 N s.1 s.2) N (gm, ((2 * l : Nat) : Int)) = some e ∧ e.1 = n ∧ (∀ f q, gI e.2 f q = gI gm f q) ∧ (∀ q k, q ≠ 26 → gA e.2 q k = gA gm q k) ∧ ∀ k, k < 2 * n → gA e.2 26 k = gA gm 26 (if k < 2 * l then k else k + 2) := by
  refine loop_ex (N := N) (fun i s => s.2 = ((2 * l + i : Nat) : Int) ∧ (∀ f q, gI s.1 f q = gI gm f q) ∧ (∀ q k, q ≠ 26 → gA s.1 q k = gA gm q k) ∧ (∀ k, gA s.1 26 k = gA gm 26 (if 2 * l ≤ k ∧ k < 2 * l + i then k + 2 else k))) (2 * n - 2 * l) _ (fun i s hi hs => ?_) (fun s hs => ?_) ⟨rfl, fun _ _ => rfl, fun _ _ _ => rfl, fun k => by rw [if_neg (by omega)]⟩ (by omega)
  · obtain ⟨g1, j⟩ := s
    obtain ⟨rfl, q2, q3, q4⟩ := hs
    dsimp only at q2 q3 q4
    refine ⟨(sA g1 26 (2 * l + i) (gA gm 26 (2 * l + i + 2)), ((2 * l + (i + 1) : Nat) : Int)), ?_, rfl, q2, fun q k h1 => ?_, fun k => ?_⟩
    · unfold m_drop_b39
      dsimp only
      rw [q2, hg, w32_of (by omega) (by omega), w32_of (by omega) (by omega), if_neg (by omega), rdA_atv (k := 2 * l + i + 2) (v := gA gm 26 (2 * l + i + 2)) (by rw [q4, if_neg (by omega)]) (by omega) (by omega) (by omega), obind_some, wrA_at (2 * l + i) (by omega) (by omega) (by omega), obind_some]
      simp; omega
    · rw [gA_sA, if_neg (by omega)]; exact q3 q k h1
    · rw [gA_sA]
      by_cases e : k = 2 * l + i
      · rw [if_pos ⟨rfl, e⟩, if_pos (by omega), e]
      · rw [if_neg (fun q => e q.2), q4]
        by_cases e2 : 2 * l ≤ k ∧ k < 2 * l + i
        · rw [if_pos e2, if_pos (by omega)]
        · rw [if_neg e2, if_neg (by omega)]
  · obtain ⟨g1, j⟩ := s
    obtain ⟨rfl, q2, q3, q4⟩ := hs
    dsimp only at q2 q3 q4
    refine ⟨((n : Int), g1), ?_, rfl, q2, q3, fun k hk => ?_⟩
    · unfold m_drop_b39
      dsimp only
      rw [q2, hg, w32_of (by omega) (by omega), w32_of (by omega) (by omega), if_pos (by omega)]; rfl
    · show gA g1 26 k = _
      rw [q4]
      by_cases e : k < 2 * l
      · rw [if_neg (by omega), if_pos e]
      · rw [if_pos (by omega), if_neg e]
theorem s_drop (hN : 100000000000000000000 ≤ N) (hW : WFK K) (h : Inv N t K z g gm a) (h394 : 394 ≤ z) (ht : t < 64) (e1 : w32 a1 = a1) : StepOK N t (lc_43 N K z g gm a1 a2 a3 a4 a5 a6) := by
  have hn := h.pok.n
  have hth := h.th h394
  by_cases hc : 0 ≤ a1 ∧ a1 < a.p.n
  · obtain ⟨l, rfl⟩ := nat_of hc.1
    have hl : l < a.p.n := by omega
    have X : ∀ (res : Int × GS) (o : Option ((Nat × GS) ⊕ (Int × GS))), x_changes K g = some res → (if ¬ w32 res.1 = 0 then (xPlan_drops N 3 res.2 l).bind fun c19 => some (.inr ((gI c19 202 3), c19)) else some (.inr ((-1), res.2))) = o → x_drop N K g l = o := by
      intro res o q1 q2
      unfold x_drop
      rw [x_lineOf_ok h hl, obind_some]
      dsimp only [thT]
      rw [q1, obind_some]
      exact q2
    have Y : ∀ (res : Int × GS) (o : Option (Int × GS)), m_changes N (sI gm 900 0 0) = some res → (if ¬ w32 res.1 = 0 then loopN (fun s => m_drop_b39 N s.1 s.2) N ((sI res.2 949 0 ((gI res.2 949 0) - 1)), (2 * (l : Int))) else some ((-1), res.2)) = o → m_drop N gm l = o := by
      intro res o q1 q2
      unfold m_drop
      rw [m_isLine_ok h hl, obind_some, if_pos wz1]
      dsimp only
      rw [q1, obind_some]
      exact q2
    rcases changes_eq hN hW hth h394 with ⟨c1, c2, c3⟩ | ⟨g1, gm1, b1, c1, c2, c3, c4, c5, c6⟩
    · exact o_drop_v (v := -1) (w := -1) (X (0, g) _ c2 (if_neg wz0)) (Y (0, sI gm 900 0 0) _ c3 (if_neg wz0)) th0 rfl (h.val .refl .th h394)
    · have xp0 := c3.xp
      have mp0 := c3.mp
      rw [c4] at xp0 mp0
      obtain ⟨G, x1, x2, x3, x4, x5⟩ := x_drops_eq hN xp0 hn hl
      have e949 : gI (sI gm1 949 0 (gI gm1 949 0 - 1)) 949 0 = ((a.p.n - 1 : Nat) : Int) := by rw [gI_sI, if_pos ⟨rfl, rfl⟩, mp0.n]; omega
      obtain ⟨⟨ev, H⟩, m1, m2, m3, m4, m5⟩ := m_drops_eq hN (gm := sI gm1 949 0 (gI gm1 949 0 - 1)) (l := l) (n := a.p.n - 1) e949 (by omega) (by omega)
      dsimp only at m2 m3 m4 m5
      subst m2
      have xp : XPl 3 G (Pl.mk (a.p.n - 1) (dpf a.p.de l) (dpf a.p.wh l)) := by
        refine XPl.mk x2 (fun k hk => ?_) (fun k hk => ?_)
        · have hk : k < a.p.n - 1 := hk
          show gA G 4 k = ((if k < l then a.p.de k else a.p.de (k + 1) : Nat) : Int)
          rw [(x5 k hk).1]
          by_cases e : k < l
          · rw [if_pos e, if_pos e]; exact xp0.de k (by omega)
          · rw [if_neg e, if_neg e]; exact xp0.de (k + 1) (by omega)
        · have hk : k < a.p.n - 1 := hk
          show gA G 5 k = ((if k < l then a.p.wh k else a.p.wh (k + 1) : Nat) : Int)
          rw [(x5 k hk).2]
          by_cases e : k < l
          · rw [if_pos e, if_pos e]; exact xp0.wh k (by omega)
          · rw [if_neg e, if_neg e]; exact xp0.wh (k + 1) (by omega)
      have mp : MPl H (Pl.mk (a.p.n - 1) (dpf a.p.de l) (dpf a.p.wh l)) := by
        refine MPl.mk (by rw [m3]; exact e949) (fun k hk => ?_) (fun k hk => ?_)
        · have hk : k < a.p.n - 1 := hk
          show gA H 26 (2 * k) = ((if k < l then a.p.de k else a.p.de (k + 1) : Nat) : Int)
          rw [m5 _ (by omega)]
          by_cases e : k < l
          · rw [if_pos (by omega), if_pos e]; exact mp0.de k (by omega)
          · rw [if_neg (by omega), if_neg e]; exact mp0.de (k + 1) (by omega)
        · have hk : k < a.p.n - 1 := hk
          show gA H 26 (2 * k + 1) = ((if k < l then a.p.wh k else a.p.wh (k + 1) : Nat) : Int)
          rw [m5 _ (by omega)]
          by_cases e : k < l
          · rw [if_pos (by omega), if_pos e]; exact mp0.wh k (by omega)
          · rw [if_neg (by omega), if_neg e, show 2 * k + 1 + 2 = 2 * (k + 1) + 1 by omega]; exact mp0.wh (k + 1) (by omega)
      have po : PlOK b1.rd (Pl.mk (a.p.n - 1) (dpf a.p.de l) (dpf a.p.wh l)) := by
        rw [c5]
        refine PlOK.mk (by show a.p.n - 1 ≤ 12; omega) (fun k hk => ?_) (fun k hk => ?_) (fun k k' hk hk' => ?_)
        · have hk : k < a.p.n - 1 := hk
          show (if k < l then a.p.de k else a.p.de (k + 1)) < a.rd.D
          split
          · exact h.pok.de k (by omega)
          · exact h.pok.de (k + 1) (by omega)
        · have hk : k < a.p.n - 1 := hk
          show 1 ≤ (if k < l then a.p.wh k else a.p.wh (k + 1)) ∧ (if k < l then a.p.wh k else a.p.wh (k + 1)) < 2 ^ a.rd.P
          split
          · exact h.pok.wh k (by omega)
          · exact h.pok.wh (k + 1) (by omega)
        · have hk' : k' < a.p.n - 1 := hk'
          show (if k < l then a.p.de k else a.p.de (k + 1)) ≠ (if k' < l then a.p.de k' else a.p.de (k' + 1))
          split
          · split
            · exact h.pok.di k k' hk (by omega)
            · exact h.pok.di k (k' + 1) (by omega) (by omega)
          · rw [if_neg (by omega)]
            exact h.pok.di (k + 1) (k' + 1) (by omega) (by omega)
      obtain ⟨a', I⟩ := Inv.fin (v := w32 ((a.p.n - 1 : Nat) : Int)) (c3.newp po xp mp x3 x4 (fun f q hf => by rw [m3, gI_sI, if_neg (by omega)]) (fun b k h1 => by rw [m4 _ _ h1]; rfl)) h394
      refine o_drop_v (v := ((a.p.n - 1 : Nat) : Int)) (w := ((a.p.n - 1 : Nat) : Int)) (X (1, g1) (some (.inr (((a.p.n - 1 : Nat) : Int), G))) c1 ?_) (Y (1, gm1) (some (((a.p.n - 1 : Nat) : Int), H)) c2 ?_) (by rw [m3, gI_sI, if_neg (by omega)]; exact c6) rfl I
      · rw [if_pos wz1, x1, obind_some, x2]
      · rw [if_pos wz1]
        rw [show (2 * (l : Int)) = ((2 * l : Nat) : Int) by omega]
        exact m1
  · refine o_drop_r0 (w := 0) ?_ ?_ h394 ht h
    · unfold x_drop
      rw [x_lineOf_no h e1 hc, obind_some]
      rfl
    · unfold m_drop
      rw [m_isLine_no h e1 hc, obind_some, if_neg wz0]
theorem takes_pl {l q : Nat} {gm1 : GS} (hn : p.n ≤ 12) (h : MRow l q gm p) (k1 : gI gm1 949 0 = gA gm l (q + 24)) (k2 : ∀ j, j < 24 → gA gm1 26 j = gA gm l (q + j)) : MPl gm1 p := MPl.mk (by rw [k1, h.n]) (fun k hk => by rw [k2 _ (by omega)]; exact h.de k hk) fun k hk => by rw [k2 _ (by omega), show q + (2 * k + 1) = q + 2 * k + 1 by omega]; exact h.wh k hk
theorem s_undo (hN : 100000000000000000000 ≤ N) (hW : WFK K) (h : Inv N t K z g gm a) (h394 : 394 ≤ z) : StepOK N t (lc_44 N K z g gm a1 a2 a3 a4 a5 a6) := by
  have hth := h.th h394
  have hch := h.c20
  by_cases hc : a.ch = 0
  · refine ⟨((K, z, g), sI gm 900 0 0), ?_, a, h.val0 .refl .th h394⟩
    unfold lc_44 x_undo m_undo
    rw [h.xc, hth.mc, hc, if_neg (by decide), if_neg (by decide), obind_some, obind_some, if_pos rfl]
  · obtain ⟨c, hcc⟩ : ∃ c, a.ch = c + 1 := ⟨a.ch - 1, by omega⟩
    have ec : (a.ch : Int) - 1 = (c : Int) := by omega
    obtain ⟨G, hG⟩ : ∃ G, G = sI g 16 0 (c : Int) := ⟨_, rfl⟩
    obtain ⟨H, hH⟩ : ∃ H, H = sI (sI gm 900 0 0) 970 0 (c : Int) := ⟨_, rfl⟩
    obtain ⟨gm1, k1, k2, k3⟩ := m_takesFrom_eq (N := N) (gm := H) hN (l := 41) (n := 500) (q := 25 * c) (by omega) (by omega) (by omega)
    have pG : ∀ {o p}, XPl o g p → XPl o G p := fun hp => by subst hG; exact hp.mono (by rw [gI_sI, if_neg (by omega)]) (fun _ => rfl) fun _ => rfl
    have hb := h.xb c (by omega)
    have hbo := h.bok c (by omega)
    have hmb : MRow 41 (25 * c) H (a.bf c) := (h.mb c (by omega)).mono fun k => by subst hH; rfl
    have aH : ∀ b j, gA H b j = gA (sI gm 900 0 0) b j := fun b j => by subst hH; rfl
    have I : ∃ a', Inv N t K z (asW G (101 + 3 * c) 3) gm1 a' := by
      have hPX : PX z g (asW G (101 + 3 * c) 3) := PX.trans (g1 := G) ⟨fun f q _ h2 _ => by subst hG; rw [gI_sI, if_neg (by omega)], fun q k _ _ _ _ => by subst hG; rfl⟩ (asW_PX (by omega))
      have xA : ∀ {o p}, 101 ≤ o → XPl o g p → XPl o (asW G (101 + 3 * c) 3) p := fun ho hp => asW_other (by omega) (by omega) (pG hp)
      have mA : ∀ b j, b ≠ 26 → gA gm1 b j = gA (sI gm 900 0 0) b j := fun b j hb => by rw [k3, if_neg (by omega), aH]
      refine ⟨Ab.mk a.r a.rd (a.bf c) a.lw c a.bf a.kp a.im a.ib a.ic, hth.plan hPX ⟨fun f q h1 h2 h3 => by rw [k2, if_neg (by omega)]; subst hH; rw [gI_sI, if_neg (by omega)], fun q k h1 h2 h3 => mA q k h1⟩ rfl rfl rfl hbo (asW_pl hbo.n (by omega) (pG hb)) (takes_pl hbo.n hmb (by rw [k2, if_pos ⟨rfl, rfl⟩]) (fun j hj => by rw [k3, if_pos ⟨rfl, hj⟩])) (by show c ≤ 20; omega) ?_ ?_ (fun i hi => h.bok i (by have hi : i < c := hi; omega)) (fun i hi => xA (by omega) (h.xb i (by have hi : i < c := hi; omega))) (fun i hi => (h.mb i (by have hi : i < c := hi; omega)).mono fun k => mA _ _ (by omega)) h.k3 ?_ ?_ h.ic20 (fun q hq => ?_) (fun q hq => ?_) h.iok (fun q hq => xA (by omega) (h.xim q hq)) (fun q hq => (h.mim q hq).mono fun k => mA _ _ (by omega)) h.ibok (fun q i hq hi h2 => xA (by omega) (h.xib q i hq hi h2)) (fun q i hq hi h2 => (h.mib q i hq hi h2).mono fun k => mA _ _ (by omega))⟩
      · rw [asW_I, if_neg (by omega)]; subst hG; rw [gI_sI, if_pos ⟨rfl, rfl⟩]; rfl
      · rw [k2, if_neg (by omega)]; subst hH; rw [gI_sI, if_pos ⟨rfl, rfl⟩]; rfl
      · rw [asW_I, if_neg (by omega)]; subst hG; rw [gI_sI, if_neg (by omega)]; exact h.xk
      · rw [k2, if_neg (by omega)]; subst hH; rw [gI_sI, if_neg (by omega)]; exact hth.mk3
      · rw [asW_A (by omega) (by omega)]; subst hG; exact h.xic q hq
      · rw [mA _ _ (by omega)]; exact h.mic q hq
    obtain ⟨a', I⟩ := I
    refine ⟨((K, z, asW G (101 + 3 * c) 3), gm1), ?_, a', I.val0 .refl .refl h394⟩
    have x1 : x_undo K g = some ((c : Int), asW G (101 + 3 * c) 3) := by
      unfold x_undo
      rw [h.xc, w32_of (by omega) (by omega), if_pos (by omega), ec, ← hG, show rdQ K G 6 20 (c : Int) 3 = some (101 + 3 * c) from rdQ_of (by omega) (by omega) (by subst hG; exact h.b6 _ (by omega)) (kb hW (by omega)), obind_some, xPlan_as_eq, obind_some, asW_I, if_neg (by omega)]
      subst hG
      rw [gI_sI, if_pos ⟨rfl, rfl⟩]
    have m1 : m_undo N gm = some ((c : Int), gm1) := by
      unfold m_undo
      rw [hth.mc, w32_of (by omega) (by omega), if_pos (by omega), ec, show gI (sI (sI gm 900 0 0) 970 0 (c : Int)) 970 0 = c by rw [gI_sI, if_pos ⟨rfl, rfl⟩], ← hH, show 25 * (c : Int) = ((25 * c : Nat) : Int) by omega, k1, obind_some, k2, if_neg (by omega)]
      subst hH
      rw [gI_sI, if_pos ⟨rfl, rfl⟩]
    unfold lc_44
    rw [x1, m1, obind_some, obind_some, if_pos rfl]
