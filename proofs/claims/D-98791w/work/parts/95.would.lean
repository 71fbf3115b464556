set_option maxRecDepth 100000
/-! PLAIN 36: what would be -/
variable {N : Nat} {K K' : Nat → Nat} {t t' z z' r o : Nat} {g gm g1 gm1 : GS} {a1 a2 a3 a4 a5 a6 v w : Int} {a : Ab} {rd : Rd} {p : Pl}
theorem s_would (hN : 100000000000000000000 ≤ N) (h : Inv N t K z g gm a) (h394 : 394 ≤ z) (ht : t < 64) (e1 : w32 a1 = a1) (e2 : w32 a2 = a2) (e3 : w32 a3 = a3) (e4 : w32 a4 = a4) (e5 : w32 a5 = a5) (e6 : w32 a6 = a6) : StepOK N t (lc_11 N K z g gm a1 a2 a3 a4 a5 a6) := by
  have hzb := h.zb
  have W : ∀ {x lo hi : Int}, w32 x = x → w32 lo = lo → w32 hi = hi → lo ≤ x ∧ x ≤ hi → x_within g x lo hi = some (.inr g) := fun hx hl hh hc => x_within_ok (by rw [hx, hl]; exact hc.1) (by rw [hx, hh]; exact hc.2)
  have V : ∀ {x lo hi : Int}, w32 x = x → w32 lo = lo → w32 hi = hi → ¬(lo ≤ x ∧ x ≤ hi) → x_within g x lo hi = some (.inl (1, sA g 12 1 (gA g 12 1 + 1))) := fun hx hl hh hc => x_within_no (by rw [hx, hl, hh]; exact hc)
  have M : ∀ {x lo hi : Int}, w32 x = x → w32 lo = lo → w32 hi = hi → m_within x lo hi = some (if lo ≤ x ∧ x ≤ hi then 1 else 0) := fun hx hl hh => by rw [m_within_eq, hx, hl, hh]
  show StepOK N t (lcmp (xLaw0_would 393 K z g a1 a2 a3 a4 a5 a6) (m_would N gm a1 a2 a3 a4 a5 a6))
  by_cases hc : ((1 ≤ a1 ∧ a1 ≤ 30) ∧ (1 ≤ a2 ∧ a2 ≤ 2) ∧ (0 ≤ a3 ∧ a3 ≤ 18)) ∧ (0 ≤ a4 ∧ a4 ≤ 1) ∧ (0 ≤ a5 ∧ a5 ≤ 240) ∧ (0 ≤ a6 ∧ a6 ≤ 1)
  · obtain ⟨⟨c1, c2, c3⟩, c4, c5, c6⟩ := hc
    obtain ⟨G, hG⟩ : ∃ G, G = sI (sI (sI (sI (sI (sI (newI 4 z g) 400 z a1) 401 z a2) 402 z a3) 403 z a4) 404 z a5) 405 z a6 := ⟨_, rfl⟩
    have gI1 : ∀ f q, q ≠ z → gI G f q = gI g f q := fun f q hq => by
      subst hG
      simp only [gI_sI, gI_newI]
      rw [if_neg (by omega), if_neg (by omega), if_neg (by omega), if_neg (by omega), if_neg (by omega), if_neg (by omega), if_neg (by omega)]
    have gA1 : ∀ q k, gA G q k = gA g q k := fun q k => by subst hG; rfl
    have L := h.xl (ku K z 5) G z (fun q hq => ku_ne (by omega)) (fun f q hq _ => gI1 f q (by omega))
    have v0 : gI G 400 z = a1 ∧ gI G 401 z = a2 ∧ gI G 402 z = a3 ∧ gI G 403 z = a4 ∧ gI G 404 z = a5 ∧ gI G 405 z = a6 := by subst hG; simp [gI_sI]
    obtain ⟨v1, v2, v3, v4, v5, v6⟩ := v0
    rw [v1, v2, v3, v4, v5, v6] at L
    have hx : x_would K z g a1 a2 a3 a4 a5 a6 = some (.inr (a.lw a1 a2 a3 a4 a5 a6, (ku K z 5, z + 1, G))) := by
      unfold x_would
      rw [W e1 rfl rfl c1, obind_some]
      dsimp only [thT]
      rw [W e2 rfl rfl c2, obind_some]
      dsimp only
      rw [W e3 rfl rfl c3, obind_some]
      dsimp only
      rw [W e4 rfl rfl c4, obind_some]
      dsimp only
      rw [W e5 rfl rfl c5, obind_some]
      dsimp only
      rw [W e6 rfl rfl c6, obind_some]
      dsimp only
      rw [lim_le (by omega)]
      unfold xSight_init
      rw [obind_some]
      dsimp only
      rw [← hG, L, obind_some]
    obtain ⟨H, m1, m2, m3⟩ := h.ml (sA (sA (sA (sA (sA (sA (sI gm 900 0 0) 24 0 a1) 24 1 a2) 24 2 a3) 24 3 a4) 24 4 a5) 24 5 a6) (by show gI (sI gm 900 0 0) 943 0 = _; rw [gI_sI, if_neg (by omega)]) (fun k => by simp [gA_sA, gA_sI]) (fun k => by simp [gA_sA, gA_sI])
    have hm : m_would N gm a1 a2 a3 a4 a5 a6 = some (a.lw a1 a2 a3 a4 a5 a6, H) := by
      unfold m_would
      rw [M e1 rfl rfl, if_pos c1, obind_some, if_neg wz1, M e2 rfl rfl, if_pos c2, obind_some, if_neg wz1, M e3 rfl rfl, if_pos c3, obind_some, if_neg wz1, M e4 rfl rfl, if_pos c4, obind_some, if_neg wz1, M e5 rfl rfl, if_pos c5, obind_some, if_neg wz1, M e6 rfl rfl, if_pos c6, obind_some, if_neg wz1]
      unfold m_would_j72
      rw [m_may_ok th0, obind_some, if_pos wz1, wrA_at (i := 0) 0 rfl (by omega) (by omega), obind_some, wrA_at (i := 1) 1 rfl (by omega) (by omega), obind_some, wrA_at (i := 2) 2 rfl (by omega) (by omega), obind_some, wrA_at (i := 3) 3 rfl (by omega) (by omega), obind_some, wrA_at (i := 4) 4 rfl (by omega) (by omega), obind_some, wrA_at (i := 5) 5 rfl (by omega) (by omega), obind_some, m1, obind_some]
      simp [gA_sA]
    have e : xLaw0_would 393 K z g a1 a2 a3 a4 a5 a6 = some (0, (ku K z 5, z + 1, sA G 393 0 (w32 (a.lw a1 a2 a3 a4 a5 a6)))) := by
      unfold xLaw0_would
      rw [hx, obind_some]
      dsimp only [thT]
      rw [wrA_at (i := 0) 0 rfl (by omega) (by omega), obind_some]
    have xs : XSame z g G := ⟨⟨fun f q hq _ => gI1 f q (by omega), fun f q _ _ h2 => gI1 f q (by omega), fun q k _ _ _ _ => gA1 q k, fun f q hq _ => gI1 f q (by omega)⟩, fun k => gA1 _ _⟩
    have ms : MSame gm H := (MSame.th).trans ⟨⟨fun f _ => m2 f 0, fun q k hq => by rw [m3 _ _ (by omega)]; simp only [gA_sA]; rw [if_neg (by omega), if_neg (by omega), if_neg (by omega), if_neg (by omega), if_neg (by omega), if_neg (by omega)]⟩, fun k => by rw [m3 _ _ (by omega)]; rfl⟩
    exact st_v e hm (by rw [m2]; exact th0 (gm := gm)) rfl (h.same xs.out ms (fun q hq => ku_ne (by omega)) h394 (by omega) (by omega))
  · have hx : x_would K z g a1 a2 a3 a4 a5 a6 = some (.inl (1, (kE 1 K z, z + 1, sA g 12 1 (gA g 12 1 + 1)))) := by
      unfold x_would
      by_cases c1 : 1 ≤ a1 ∧ a1 ≤ 30
      · rw [W e1 rfl rfl c1, obind_some]
        dsimp only [thT]
        by_cases c2 : 1 ≤ a2 ∧ a2 ≤ 2
        · rw [W e2 rfl rfl c2, obind_some]
          dsimp only
          by_cases c3 : 0 ≤ a3 ∧ a3 ≤ 18
          · rw [W e3 rfl rfl c3, obind_some]
            dsimp only
            by_cases c4 : 0 ≤ a4 ∧ a4 ≤ 1
            · rw [W e4 rfl rfl c4, obind_some]
              dsimp only
              by_cases c5 : 0 ≤ a5 ∧ a5 ≤ 240
              · rw [W e5 rfl rfl c5, obind_some]
                dsimp only
                rw [V e6 rfl rfl (fun c6 => hc ⟨⟨c1, c2, c3⟩, c4, c5, c6⟩), obind_some]
                dsimp only
                rw [lim_le (by omega)]
              · rw [V e5 rfl rfl c5, obind_some]
                dsimp only
                rw [lim_le (by omega)]
            · rw [V e4 rfl rfl c4, obind_some]
              dsimp only
              rw [lim_le (by omega)]
          · rw [V e3 rfl rfl c3, obind_some]
            dsimp only
            rw [lim_le (by omega)]
        · rw [V e2 rfl rfl c2, obind_some]
          dsimp only
          rw [lim_le (by omega)]
      · rw [V e1 rfl rfl c1, obind_some]
        dsimp only [thT]
        rw [lim_le (by omega)]
    have hm : m_would N gm a1 a2 a3 a4 a5 a6 = some (0, sA (sI (sI gm 900 0 0) 900 0 1) 1 1 (gA gm 1 1 + 1)) := by
      have j : m_would_j71 N (sI gm 900 0 0) a1 a2 a3 a4 a5 a6 = some (0, sA (sI (sI gm 900 0 0) 900 0 1) 1 1 (gA gm 1 1 + 1)) := by
        unfold m_would_j71 m_would_j72
        rw [m_may_no1 th0 (by omega), obind_some, if_neg wz0]; rfl
      unfold m_would
      rw [M e1 rfl rfl, obind_some]
      by_cases c1 : 1 ≤ a1 ∧ a1 ≤ 30
      · rw [if_pos c1, if_neg wz1, M e2 rfl rfl, obind_some]
        by_cases c2 : 1 ≤ a2 ∧ a2 ≤ 2
        · rw [if_pos c2, if_neg wz1, M e3 rfl rfl, obind_some]
          by_cases c3 : 0 ≤ a3 ∧ a3 ≤ 18
          · rw [if_pos c3, if_neg wz1, M e4 rfl rfl, obind_some]
            by_cases c4 : 0 ≤ a4 ∧ a4 ≤ 1
            · rw [if_pos c4, if_neg wz1, M e5 rfl rfl, obind_some]
              by_cases c5 : 0 ≤ a5 ∧ a5 ≤ 240
              · rw [if_pos c5, if_neg wz1, M e6 rfl rfl, if_neg (fun c6 => hc ⟨⟨c1, c2, c3⟩, c4, c5, c6⟩), obind_some, if_pos w32_z, j]
              · rw [if_neg c5, if_pos w32_z, j]
            · rw [if_neg c4, if_pos w32_z, j]
          · rw [if_neg c3, if_pos w32_z, j]
        · rw [if_neg c2, if_pos w32_z, j]
      · rw [if_neg c1, if_pos w32_z, j]
    have e : xLaw0_would 393 K z g a1 a2 a3 a4 a5 a6 = some (1, (kE 1 K z, z + 1, sA g 12 1 (gA g 12 1 + 1))) := by
      unfold xLaw0_would
      rw [hx, obind_some]
      rfl
    exact st_r e hm (by decide) (by decide) (by omega) h394 ht h
