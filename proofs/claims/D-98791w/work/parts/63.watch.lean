set_option maxRecDepth 100000
/-! PLAIN 4: a watch: one line -/
variable {N : Nat} {K : Nat → Nat} {r o z : Nat} {g gm : GS} {rd : Rd} {lw : Int → Int → Int → Int → Int → Int → Int}
theorem XRd.mono {g' : GS} (h : XRd r g rd) (h1 : ∀ f, 813 ≤ f → f ≤ 823 → gI g' f r = gI g f r) (h2 : ∀ q k, r < q → q < r + 18 → gA g' q k = gA g q k) : XRd r g' rd := by
  obtain ⟨n, n1, n2, n3, n4⟩ := h.nr
  refine XRd.mk (by rw [h1 _ (by omega) (by omega), h.P]) (by rw [h1 _ (by omega) (by omega), h.D]) ⟨n, n1, by rw [h1 _ (by omega) (by omega), n2], fun k hk => ?_, fun t ht => ?_⟩ (by rw [h1 _ (by omega) (by omega), h.B]) (by rw [h1 _ (by omega) (by omega), h.U]) (by rw [h1 _ (by omega) (by omega), h.C]) (by rw [h1 _ (by omega) (by omega), h.load]) (by rw [h1 _ (by omega) (by omega), h.stops]) (by rw [h1 _ (by omega) (by omega), h.loses]) (by rw [h1 _ (by omega) (by omega), h.soft]) (by rw [h1 _ (by omega) (by omega), h.each]) (fun p hp => by rw [h2 _ _ (by omega) (by omega), h.st p hp]) (fun p hp => by rw [h2 _ _ (by omega) (by omega), h.mi p hp]) (fun p hp => by rw [h2 _ _ (by omega) (by omega), h.ou p hp]) (fun p hp => by rw [h2 _ _ (by omega) (by omega), h.ha p hp]) (fun p hp => by rw [h2 _ _ (by omega) (by omega), h.sg p hp]) (fun p hp => by rw [h2 _ _ (by omega) (by omega), h.ne p hp]) (fun p hp => by rw [h2 _ _ (by omega) (by omega), h.be p hp]) (fun p hp => by rw [h2 _ _ (by omega) (by omega), h.br p hp]) (fun p hp => by rw [h2 _ _ (by omega) (by omega), h.ru p hp]) (fun p hp => by rw [h2 _ _ (by omega) (by omega), h.li p hp]) (fun p hp => by rw [h2 _ _ (by omega) (by omega), h.sw p hp]) (fun c s hc hs h3 => ?_)
  · rw [h2 _ _ (by omega) (by omega), h2 _ _ (by omega) (by omega)]
    exact n3 k hk
  · rw [n4 t ht]
    constructor
    · rintro ⟨k, q⟩
      exact ⟨k, by rw [h2 _ _ (by omega) (by omega), h2 _ _ (by omega) (by omega)]; exact q⟩
    · rintro ⟨k, q⟩
      rw [h2 _ _ (by omega) (by omega), h2 _ _ (by omega) (by omega)] at q
      exact ⟨k, q⟩
  · rw [h2 _ _ (by omega) (by omega), h.sh c s hc hs h3]
theorem XRd.sI {f q : Nat} {v : Int} (h : XRd r g rd) (hf : f < 813 ∨ 823 < f) : XRd r (sI g f q v) rd := h.mono (fun f' h1 h2 => by rw [gI_sI, if_neg (by omega)]) fun _ _ _ _ => rfl
theorem XRd.sA {q k : Nat} {v : Int} (h : XRd r g rd) (hf : q ≤ r ∨ r + 18 ≤ q) : XRd r (sA g q k v) rd := h.mono (fun f' h1 h2 => rfl) fun a b h1 h2 => by rw [gA_sA, if_neg (by omega)]
theorem MRd.mono {g' : GS} (h : MRd gm rd) (h1 : ∀ f, 932 ≤ f → f ≤ 936 → gI g' f 0 = gI gm f 0) (h2 : ∀ a k, 9 ≤ a → a ≤ 18 → a ≠ 15 → a ≠ 17 → gA g' a k = gA gm a k) : MRd g' rd :=
  MRd.mk (by rw [h1 _ (by omega) (by omega), h.P]) (by rw [h1 _ (by omega) (by omega), h.D]) (by rw [h1 _ (by omega) (by omega), h.B]) (by rw [h1 _ (by omega) (by omega), h.U]) (by rw [h1 _ (by omega) (by omega), h.C]) (fun p hp => by rw [h2 _ _ (by omega) (by omega) (by omega) (by omega), h.st p hp]) (fun p hp => by rw [h2 _ _ (by omega) (by omega) (by omega) (by omega), h.mi p hp]) (fun p hp => by rw [h2 _ _ (by omega) (by omega) (by omega) (by omega), h.ou p hp]) (fun p hp => by rw [h2 _ _ (by omega) (by omega) (by omega) (by omega), h.ha p hp]) (fun p hp => by rw [h2 _ _ (by omega) (by omega) (by omega) (by omega), h.sg p hp]) (fun p hp => by rw [h2 _ _ (by omega) (by omega) (by omega) (by omega), h.ne p hp]) (fun p hp => by rw [h2 _ _ (by omega) (by omega) (by omega) (by omega), h.be p hp]) (fun p hp => by rw [h2 _ _ (by omega) (by omega) (by omega) (by omega), h.br p hp]) (fun p hp => by rw [h2 _ _ (by omega) (by omega) (by omega) (by omega), h.ru p hp]) (fun p hp => by rw [h2 _ _ (by omega) (by omega) (by omega) (by omega), h.li p hp]) (fun c s hc hs => by rw [h2 _ _ (by omega) (by omega) (by omega) (by omega), h.sh c s hc hs]) (by rw [h2 _ _ (by omega) (by omega) (by omega) (by omega), h.load]) (by rw [h2 _ _ (by omega) (by omega) (by omega) (by omega), h.stops]) (by rw [h2 _ _ (by omega) (by omega) (by omega) (by omega), h.loses]) (by rw [h2 _ _ (by omega) (by omega) (by omega) (by omega), h.soft]) (by rw [h2 _ _ (by omega) (by omega) (by omega) (by omega), h.each]) (fun p hp => by rw [h2 _ _ (by omega) (by omega) (by omega) (by omega), h.ra p hp])
theorem MRd.sI {f q : Nat} {v : Int} (h : MRd gm rd) (hf : f < 932 ∨ 936 < f) : MRd (sI gm f q v) rd := h.mono (fun f' h1 h2 => by rw [gI_sI, if_neg (by omega)]) fun _ _ _ _ _ _ => rfl
theorem MRd.sA {a k : Nat} {v : Int} (h : MRd gm rd) (hf : 18 < a ∨ a < 9 ∨ a = 15 ∨ a = 17) : MRd (sA gm a k v) rd := h.mono (fun f' h1 h2 => rfl) fun a' k' h1 h2 h3 h4 => by rw [gA_sA, if_neg (by omega)]
def lwOK (lw : Int → Int → Int → Int → Int → Int → Int) : Prop := ∀ a b c d e f, 1 ≤ lw a b c d e f ∧ lw a b c d e f ≤ 99
def XLw (K : Nat → Nat) (z : Nat) (g : GS) (lw : Int → Int → Int → Int → Int → Int → Int) : Prop := ∀ (K' : Nat → Nat) (g' : GS) (s : Nat), (∀ q, q < z → K' q = K q) → (∀ f q, q < z → f = 100 ∨ (1400 ≤ f ∧ f < 1700) → gI g' f q = gI g f q) → xLaw_lasts K' s g' = some (lw (gI g' 400 s) (gI g' 401 s) (gI g' 402 s) (gI g' 403 s) (gI g' 404 s) (gI g' 405 s))
def MLw (N : Nat) (gm : GS) (lw : Int → Int → Int → Int → Int → Int → Int) : Prop := ∀ g' : GS, gI g' 943 0 = gI gm 943 0 → (∀ k, gA g' 21 k = gA gm 21 k) → (∀ k, gA g' 22 k = gA gm 22 k) → ∃ h, m_lastsNow N g' = some (lw (gA g' 24 0) (gA g' 24 1) (gA g' 24 2) (gA g' 24 3) (gA g' 24 4) (gA g' 24 5), h) ∧ (∀ f q, gI h f q = gI g' f q) ∧ ∀ a k, a ≠ 23 → gA h a k = gA g' a k
theorem XLw.mono {g' : GS} (h : XLw K z g lw) (h1 : ∀ f q, q < z → f = 100 ∨ (1400 ≤ f ∧ f < 1700) → gI g' f q = gI g f q) : XLw K z g' lw := fun K2 g2 s h0 h2 => h K2 g2 s h0 fun f q hq hf => (h2 f q hq hf).trans (h1 f q hq hf)
theorem XLw.up {K' : Nat → Nat} {z' : Nat} (h : XLw K z g lw) (hz : z ≤ z') (hK : ∀ q, q < z → K' q = K q) : XLw K' z' g lw := fun K2 g2 s h0 h2 => h K2 g2 s (fun q hq => (h0 q (by omega)).trans (hK q hq)) fun f q hq hf => h2 f q (by omega) hf
theorem MLw.mono {g' : GS} (h : MLw N gm lw) (h1 : gI g' 943 0 = gI gm 943 0) (h2 : ∀ k, gA g' 21 k = gA gm 21 k) (h3 : ∀ k, gA g' 22 k = gA gm 22 k) : MLw N g' lw := fun g2 e1 e2 e3 => h g2 (e1.trans h1) (fun k => (e2 k).trans (h2 k)) fun k => (e3 k).trans (h3 k)
def lastS (rd : Rd) (lw : Int → Int → Int → Int → Int → Int → Int) (d w t : Nat) : Int := lw (rd.mi d) (rd.ha d) (strS rd w) (if rd.ou d = 1 ∧ rainAt rd t = true then 1 else 0) t (rd.ou d)
theorem xWatch_lasts_eq (hN : 100000000000000000000 ≤ N) (ok : RdOK rd) (h : XRd r g rd) (hr : gI g 308 o = r) (hK : K r = 9) (hl : XLw K z g lw) {d w t : Nat} (hd : d < rd.D) (hw : w < 16) (ht : t < 100000) : ∃ g', xWatch_lasts N K o g d w t = some (lastS rd lw d w t, g') ∧ g'.2 = g.2 ∧ (∀ f q, f < 400 ∨ 406 ≤ f → gI g' f q = gI g f q) ∧ ∀ f q, q ≠ o + 7 → gI g' f q = gI g f q := by
  have hD := ok.D
  have ho := ok.ou d hd
  have key : ∀ (g1 : GS) (v : Int), v = (if rd.ou d = 1 ∧ rainAt rd t = true then 1 else 0) → g1 = sI (sI (sI g 400 (o + 7) (rd.mi d)) 401 (o + 7) (rd.ha d)) 402 (o + 7) (strS rd w) → ∃ g', xWatch_lasts_j87 N K o g1 d t v = some (lastS rd lw d w t, g') ∧ g'.2 = g.2 ∧ (∀ f q, f < 400 ∨ 406 ≤ f → gI g' f q = gI g f q) ∧ ∀ f q, q ≠ o + 7 → gI g' f q = gI g f q := by
    intro g1 v hv e
    subst e
    unfold xWatch_lasts_j87
    obtain ⟨G, hG⟩ : ∃ G, G = sI (sI (sI (sI (sI (sI g 400 (o + 7) (rd.mi d)) 401 (o + 7) (rd.ha d)) 402 (o + 7) (strS rd w)) 403 (o + 7) v) 404 (o + 7) t) 405 (o + 7) (rd.ou d) := ⟨_, rfl⟩
    have e1 := hl K G (o + 7) (fun _ _ => rfl) fun f q _ hf => by
      subst hG
      simp only [gI_sI]
      repeat rw [if_neg (by omega)]
    rw [rdR_of (r := r) (by simp [gI_sI, hr]) hK, obind_some, rdA_nat (by omega) (by omega), obind_some]
    simp only [gA_sI]
    rw [h.ou d hd, ← hG, e1, obind_some]
    refine ⟨G, ?_, by subst hG; rfl, fun f q hf => ?_, fun f q hq => ?_⟩
    · subst hG
      simp only [gI_sI, hv]
      simp [lastS]
    · subst hG
      simp only [gI_sI]
      repeat rw [if_neg (by omega)]
    · subst hG
      simp only [gI_sI]
      repeat rw [if_neg (by omega)]
  have X1 : XRd r (sI g 400 (o + 7) (rd.mi d)) rd := h.sI (by omega)
  have X2 : XRd r (sI (sI g 400 (o + 7) (rd.mi d)) 401 (o + 7) (rd.ha d)) rd := X1.sI (by omega)
  have X3 : XRd r (sI (sI (sI g 400 (o + 7) (rd.mi d)) 401 (o + 7) (rd.ha d)) 402 (o + 7) (strS rd w)) rd := X2.sI (by omega)
  unfold xWatch_lasts
  rw [rdR_of hr hK, obind_some, rdA_val (h.mi d hd) (by omega) (by omega), obind_some, rdR_of (r := r) (by simp [gI_sI, hr]) hK, obind_some, rdA_val (X1.ha d hd) (by omega) (by omega), obind_some, rdR_of (r := r) (by simp [gI_sI, hr]) hK, obind_some, xRoad_strongOf_eq hN ok X2 hw, obind_some, rdR_of (r := r) (by simp [gI_sI, hr]) hK, obind_some, rdA_val (X3.ou d hd) (by omega) (by omega), obind_some, w32_of (by omega) (by omega), w32_of (by omega) (by omega)]
  by_cases e1 : rd.ou d = 1
  · rw [if_neg (by omega), w32_of (by omega) (by omega), w32_of (by omega) (by omega)]
    by_cases e2 : t ≤ 240
    · rw [if_neg (by omega), obind_some, xRoad_isRain_eq hN X3 e2, obind_some]
      have e3 : rainAt rd t = rd.ra t := by unfold rainAt; rw [decide_eq_true (by omega)]; rfl
      cases e4 : rd.ra t
      · exact key _ 0 (by simp [e3, e4]) rfl
      · exact key _ 1 (by simp [e1, e3, e4]) rfl
    · rw [if_pos (by omega)]
      have e3 : rainAt rd t = false := by unfold rainAt; rw [decide_eq_false (by omega)]; rfl
      exact key _ 0 (by simp [e3]) rfl
  · rw [if_pos e1]
    exact key _ 0 (by simp [e1]) rfl
theorem m_lastsOf_eq (hN : 100000000000000000000 ≤ N) (ok : RdOK rd) (h : MRd gm rd) (hl : MLw N gm lw) {d w t : Nat} (hd : d < rd.D) (hw : w < 16) (ht : t < 100000) : ∃ g', m_lastsOf N gm d w t = some (lastS rd lw d w t, g') ∧ (∀ f q, gI g' f q = gI gm f q) ∧ ∀ a k, a ≠ 23 → a ≠ 24 → gA g' a k = gA gm a k := by
  have hD := ok.D
  have ho := ok.ou d hd
  have X1 : MRd (sA gm 24 0 (rd.mi d)) rd := h.sA (by omega)
  have X2 : MRd (sA (sA gm 24 0 (rd.mi d)) 24 1 (rd.ha d)) rd := X1.sA (by omega)
  have X3 : MRd (sA (sA (sA gm 24 0 (rd.mi d)) 24 1 (rd.ha d)) 24 2 (strS rd w)) rd := X2.sA (by omega)
  have key : ∀ v : Int, v = (if rd.ou d = 1 ∧ rainAt rd t = true then 1 else 0) → ∃ g', m_lastsOf_j79 N (sA (sA (sA gm 24 0 (rd.mi d)) 24 1 (rd.ha d)) 24 2 (strS rd w)) t (rd.ou d) v 3 = some (lastS rd lw d w t, g') ∧ (∀ f q, gI g' f q = gI gm f q) ∧ ∀ a k, a ≠ 23 → a ≠ 24 → gA g' a k = gA gm a k := by
    intro v hv
    unfold m_lastsOf_j79
    obtain ⟨h', e1, e2, e3⟩ := hl (sA (sA (sA (sA (sA (sA gm 24 0 (rd.mi d)) 24 1 (rd.ha d)) 24 2 (strS rd w)) 24 3 v) 24 4 t) 24 5 (rd.ou d)) rfl (fun k => by simp [gA_sA]) (fun k => by simp [gA_sA])
    rw [wrA_at 3 (by omega) (by omega) (by omega), obind_some, wrA_at 4 (by omega) (by omega) (by omega), obind_some, wrA_at 5 (by omega) (by omega) (by omega), obind_some, e1, obind_some]
    refine ⟨h', ?_, e2, fun a k h1 h2 => ?_⟩
    · simp [gA_sA, lastS, hv]
    · rw [e3 a k h1]
      simp [gA_sA, h2]
  unfold m_lastsOf
  rw [rdA_atv (h.ou d hd) (by omega) (by omega) (by omega), obind_some, rdA_atv (h.mi d hd) (by omega) (by omega) (by omega), obind_some, wrA_at 0 (by omega) (by omega) (by omega), obind_some, rdA_atv (X1.ha d hd) (by omega) (by omega) (by omega), obind_some, wrA_at 1 (by omega) (by omega) (by omega), obind_some, m_strengthOf_eq hN ok X2 hw, obind_some, wrA_at 2 (by omega) (by omega) (by omega), obind_some, w32_of (by omega) (by omega), w32_of (by omega) (by omega)]
  by_cases e1 : rd.ou d = 1
  · rw [if_neg (by omega), m_isRain_eq X3 (by omega), obind_some]
    cases e4 : rainAt rd t
    · exact key 0 (by simp [e4])
    · exact key 1 (by simp [e1, e4])
  · rw [if_pos e1]
    exact key 0 (by simp [e1])
