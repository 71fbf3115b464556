set_option maxRecDepth 100000
/-! PLAIN 27: changes -/
variable {N : Nat} {K : Nat → Nat} {t t' z r o : Nat} {g gm g1 gm1 : GS} {a1 a2 a3 a4 a5 a6 v w : Int} {a : Ab} {rd : Rd} {p : Pl}
theorem Inv.zset (h : Inv N t K z g gm a) (hz : z ≤ 394 + 181 * t') : Inv N t' K z g gm a := Inv.mk h.r12 h.kr h.r0 h.rz h.xr h.mr h.ok h.lwo h.xl h.ml h.pok h.xp h.mp h.c20 h.xc h.mc h.b6 h.bok h.xb h.mb h.k3 h.xk h.mk3 h.b7 h.b8 h.ic20 h.xic h.mic h.iok h.xim h.mim h.ibok h.xib h.mib h.fd h.tp h.pl h.bk h.sn h.rf h.w23 h.wlo h.mo hz
def PX (z : Nat) (g g' : GS) : Prop := (∀ f q, f ≠ 202 → f ≠ 16 → f ≠ 17 → gI g' f q = gI g f q) ∧ ∀ q k, q ≠ 4 → q ≠ 5 → q ≠ 11 → (q < 101 ∨ 350 ≤ q) → gA g' q k = gA g q k
def PM (g g' : GS) : Prop := (∀ f q, f ≠ 949 → f ≠ 970 → f ≠ 972 → gI g' f q = gI g f q) ∧ ∀ q k, q ≠ 26 → q ≠ 41 → q ≠ 42 → gA g' q k = gA g q k
/-- the plans have changed -/
theorem Inv.plan {a' : Ab} (h : Inv N t K z g gm a) (hx : PX z g g1) (hm : PM gm gm1) (er : a'.r = a.r) (erd : a'.rd = a.rd) (elw : a'.lw = a.lw) (pok : PlOK a.rd a'.p) (xp : XPl 3 g1 a'.p) (mp : MPl gm1 a'.p) (c20 : a'.ch ≤ 20) (xc : gI g1 16 0 = a'.ch) (mc : gI gm1 970 0 = a'.ch)
    (bok : ∀ i, i < a'.ch → PlOK a.rd (a'.bf i)) (xb : ∀ i, i < a'.ch → XPl (101 + 3 * i) g1 (a'.bf i)) (mb : ∀ i, i < a'.ch → MRow 41 (25 * i) gm1 (a'.bf i)) (k3 : a'.kp ≤ 3) (xk : gI g1 17 0 = a'.kp) (mk3 : gI gm1 972 0 = a'.kp)
    (ic20 : ∀ q, q < a'.kp → a'.ic q ≤ 20) (xic : ∀ q, q < a'.kp → gA g1 11 q = a'.ic q) (mic : ∀ q, q < a'.kp → gA gm1 42 (526 * q + 25) = a'.ic q) (iok : ∀ q, q < a'.kp → PlOK a.rd (a'.im q)) (xim : ∀ q, q < a'.kp → XPl (161 + 63 * q + 60) g1 (a'.im q)) (mim : ∀ q, q < a'.kp → MRow 42 (526 * q) gm1 (a'.im q))
    (ibok : ∀ q i, q < a'.kp → i < a'.ic q → PlOK a.rd (a'.ib q i)) (xib : ∀ q i, q < a'.kp → i < a'.ic q → i < 20 → XPl (161 + 63 * q + 3 * i) g1 (a'.ib q i)) (mib : ∀ q i, q < a'.kp → i < a'.ic q → i < 20 → MRow 42 (526 * q + 26 + 25 * i) gm1 (a'.ib q i)) : Inv N t K z g1 gm1 a' := by
  have hr := h.r0
  have i0 : ∀ f q, f ≠ 202 → f ≠ 16 → f ≠ 17 → gI g1 f q = gI g f q := hx.1
  have a0 : ∀ q k, q ≠ 4 → q ≠ 5 → q ≠ 11 → (q < 101 ∨ 350 ≤ q) → gA g1 q k = gA g q k := hx.2
  have j0 := hm.1
  have b0 := hm.2
  refine Inv.mk (by rw [er, i0 _ _ (by omega) (by omega) (by omega)]; exact h.r12) (by rw [er]; exact h.kr) (by rw [er]; exact hr) (by rw [er]; exact h.rz) (by rw [er, erd]; exact h.xr.mono (fun f _ _ => i0 _ _ (by omega) (by omega) (by omega)) fun q k _ _ => a0 _ _ (by omega) (by omega) (by omega) (by omega)) (by rw [erd]; exact h.mr.mono (fun f _ _ => j0 _ _ (by omega) (by omega) (by omega)) fun q k _ _ _ _ => b0 _ _ (by omega) (by omega) (by omega)) (by rw [erd]; exact h.ok) (by rw [elw]; exact h.lwo) (by rw [elw]; exact h.xl.mono fun f q _ hf => i0 _ _ (by omega) (by omega) (by omega)) (by rw [elw]; exact h.ml.mono (j0 _ _ (by omega) (by omega) (by omega)) (fun k => b0 _ _ (by omega) (by omega) (by omega)) fun k => b0 _ _ (by omega) (by omega) (by omega)) (by rw [erd]; exact pok) xp mp c20 xc mc (fun i hi => by rw [a0 _ _ (by omega) (by omega) (by omega) (by omega)]; exact h.b6 i hi) (by rw [erd]; exact bok) xb mb k3 xk mk3 (fun i hi => by rw [a0 _ _ (by omega) (by omega) (by omega) (by omega)]; exact h.b7 i hi) (fun q i hq hi => by rw [a0 _ _ (by omega) (by omega) (by omega) (by omega)]; exact h.b8 q i hq hi) ic20 xic mic (by rw [erd]; exact iok) xim mim (by rw [erd]; exact ibok) xib mib (by obtain ⟨n, n1, n2, n3⟩ := h.fd; exact ⟨n, n1, by rw [i0 _ _ (by omega) (by omega) (by omega)]; exact n2, by rw [j0 _ _ (by omega) (by omega) (by omega)]; exact n3⟩) (fun k hk => by rw [a0 _ _ (by omega) (by omega) (by omega) (by omega), b0 _ _ (by omega) (by omega) (by omega)]; exact h.tp k hk) (by rw [i0 _ _ (by omega) (by omega) (by omega), j0 _ _ (by omega) (by omega) (by omega)]; exact h.pl) (by rw [i0 _ _ (by omega) (by omega) (by omega), j0 _ _ (by omega) (by omega) (by omega)]; exact h.bk) (fun s hs => by rw [a0 _ _ (by omega) (by omega) (by omega) (by omega), b0 _ _ (by omega) (by omega) (by omega)]; exact h.sn s hs) (fun s hs => by rw [a0 _ _ (by omega) (by omega) (by omega) (by omega), b0 _ _ (by omega) (by omega) (by omega)]; exact h.rf s hs) (fun k hk => by rw [a0 _ _ (by omega) (by omega) (by omega) (by omega)]; exact h.w23 k hk) (fun k hk => by rw [i0 _ _ (by omega) (by omega) (by omega), i0 _ _ (by omega) (by omega) (by omega)]; exact h.wlo k hk) (fun d hd => by rw [b0 _ _ (by omega) (by omega) (by omega)]; exact h.mo d hd) h.zb
theorem kb (hW : WFK K) {i : Nat} (hi : i < 20) : K (101 + 3 * i) = 3 := by
  have e : ∀ i, i < 20 → kx0 (101 + 3 * i) = 3 := by decide
  exact hW.at (101 + 3 * i) (e i hi) (by omega)
/-- a plan becomes as another -/
def asW (g : GS) (o1 o2 : Nat) : GS := cpA (cpA (sI g 202 o2 (gI g 202 o1)) (o1 + 1) (o2 + 1) 12) (o1 + 2) (o2 + 2) 12
theorem xPlan_as_eq (o1 o2 : Nat) : xPlan_as o2 o1 g = some (asW g o1 o2) := rfl
theorem asW_I (o1 o2 f q : Nat) : gI (asW g o1 o2) f q = if f = 202 ∧ q = o2 then gI g 202 o1 else gI g f q := rfl
theorem asW_A {o1 o2 q k : Nat} (h1 : q ≠ o2 + 1) (h2 : q ≠ o2 + 2) : gA (asW g o1 o2) q k = gA g q k := by
  unfold asW
  rw [gA_cpA, if_neg (fun e => h2 e.1), gA_cpA, if_neg (fun e => h1 e.1)]
  rfl
theorem asW_pl {o1 o2 : Nat} (hn : p.n ≤ 12) (hne : o2 ≠ o1 + 1) (h : XPl o1 g p) : XPl o2 (asW g o1 o2) p := by
  refine XPl.mk ?_ (fun k hk => ?_) (fun k hk => ?_)
  · rw [asW_I, if_pos ⟨rfl, rfl⟩, h.n]
  · unfold asW
    rw [gA_cpA, if_neg (by omega), gA_cpA, if_pos ⟨rfl, by omega⟩]
    exact h.de k hk
  · unfold asW
    rw [gA_cpA, if_pos ⟨rfl, by omega⟩, gA_cpA, if_neg (by omega)]
    exact h.wh k hk
theorem asW_other {o1 o2 : Nat} (h1 : o ≠ o2) (h2 : o + 2 < o2 + 1 ∨ o2 + 2 < o + 1) (h : XPl o g p) : XPl o (asW g o1 o2) p := h.mono (by rw [asW_I, if_neg (fun e => h1 e.2)]) (fun k => asW_A (by omega) (by omega)) fun k => asW_A (by omega) (by omega)
theorem asW_PX {o1 o2 : Nat} (ho : o2 = 3 ∨ (101 ≤ o2 ∧ o2 ≤ 347)) : PX z g (asW g o1 o2) := ⟨fun f q h1 _ _ => by rw [asW_I, if_neg (fun e => h1 e.1)], fun q k h1 h2 h3 h4 => asW_A (by omega) (by omega)⟩
theorem PX.trans {g2 : GS} (h1 : PX z g g1) (h2 : PX z g1 g2) : PX z g g2 := ⟨fun f q a b c => (h2.1 f q a b c).trans (h1.1 f q a b c), fun q k a b c d => (h2.2 q k a b c d).trans (h1.2 q k a b c d)⟩
theorem PM.trans {g2 : GS} (h1 : PM g g1) (h2 : PM g1 g2) : PM g g2 := ⟨fun f q a b c => (h2.1 f q a b c).trans (h1.1 f q a b c), fun q k a b c => (h2.2 q k a b c).trans (h1.2 q k a b c)⟩
/-- the plan is kept in a row -/
theorem m_keepsIn_eq (hN : 100000000000000000000 ≤ N) {l n q : Nat} (hl : l ≠ 26) (hq : q + 25 ≤ n) (hn : n ≤ 100000) {pn : Int} (h9 : gI gm 949 0 = pn) : ∃ gm1, m_keepsIn N l n gm q = some gm1 ∧ (∀ f j, gI gm1 f j = gI gm f j) ∧ ∀ b j, gA gm1 b j = if b = l ∧ q ≤ j ∧ j < q + 25 then (if j = q + 24 then pn else gA gm 26 (j - q)) else gA gm b j := by
  unfold m_keepsIn
  obtain ⟨g2, k1, k2, k3⟩ := loop_ex (N := N) (B := fun s => m_keepsIn_b2 N l n q s.1 s.2) (s := (gm, 0)) (fun i s => s.2 = (i : Int) ∧ (∀ f j, gI s.1 f j = gI gm f j) ∧ ∀ b j, gA s.1 b j = if b = l ∧ q ≤ j ∧ j < q + i then gA gm 26 (j - q) else gA gm b j) 24 (fun g2 => (∀ f j, gI g2 f j = gI gm f j) ∧ ∀ b j, gA g2 b j = if b = l ∧ q ≤ j ∧ j < q + 24 then gA gm 26 (j - q) else gA gm b j) (fun i s hi hs => by
    obtain ⟨g2, j⟩ := s
    obtain ⟨rfl, q1, q2⟩ := hs
    dsimp only at q1 q2
    have e26 : gA g2 26 i = gA gm 26 i := by rw [q2, if_neg (fun e => hl e.1.symm)]
    refine ⟨(sA g2 l (q + i) (gA gm 26 i), ((i + 1 : Nat) : Int)), ?_, rfl, q1, fun b j => ?_⟩
    · unfold m_keepsIn_b2
      dsimp only
      rw [w32_of (by omega) (by omega), w32_of (by omega) (by omega), if_neg (by omega), rdA_val e26 (by omega) (by omega), obind_some, wrA_at (q + i) (by omega) (by omega) (by omega), obind_some]
      rfl
    · rw [gA_sA, q2]
      by_cases e : b = l ∧ j = q + i
      · obtain ⟨e1, e2⟩ := e
        subst e1 e2
        rw [if_pos ⟨rfl, rfl⟩, if_pos ⟨rfl, by omega, by omega⟩, show q + i - q = i by omega]
      · rw [if_neg e]
        by_cases e3 : b = l ∧ q ≤ j ∧ j < q + i
        · rw [if_pos e3, if_pos ⟨e3.1, e3.2.1, by omega⟩]
        · rw [if_neg e3, if_neg (fun e4 => by
            by_cases e5 : j = q + i
            · exact e ⟨e4.1, e5⟩
            · exact e3 ⟨e4.1, e4.2.1, by omega⟩)]) (fun s hs => by
    obtain ⟨g2, j⟩ := s
    obtain ⟨rfl, q1, q2⟩ := hs
    exact ⟨g2, by unfold m_keepsIn_b2; dsimp only; rw [if_pos (by decide)], q1, q2⟩) ⟨rfl, fun _ _ => rfl, fun b j => by rw [if_neg (by omega)]⟩ (by omega)
  rw [k1, obind_some, wrA_at (q + 24) (by omega) (by omega) (by omega), obind_some, k2, h9]
  refine ⟨_, rfl, k2, fun b j => ?_⟩
  rw [gA_sA, k3]
  by_cases e : b = l ∧ j = q + 24
  · rw [if_pos e, if_pos ⟨e.1, by omega, by omega⟩, if_pos e.2]
  · rw [if_neg e]
    by_cases e3 : b = l ∧ q ≤ j ∧ j < q + 24
    · rw [if_pos e3, if_pos ⟨e3.1, e3.2.1, by omega⟩, if_neg (by omega)]
    · rw [if_neg e3, if_neg (fun e4 => by
        by_cases e5 : j = q + 24
        · exact e ⟨e4.1, e5⟩
        · exact e3 ⟨e4.1, e4.2.1, by omega⟩)]
theorem m_takesFrom_eq (hN : 100000000000000000000 ≤ N) {l n q : Nat} (hl : l ≠ 26) (hq : q + 25 ≤ n) (hn : n ≤ 100000) : ∃ gm1, m_takesFrom N l n gm q = some gm1 ∧ (∀ f j, gI gm1 f j = if f = 949 ∧ j = 0 then gA gm l (q + 24) else gI gm f j) ∧ ∀ b j, gA gm1 b j = if b = 26 ∧ j < 24 then gA gm l (q + j) else gA gm b j := by
  unfold m_takesFrom
  obtain ⟨g2, k1, k2, k3⟩ := loop_ex (N := N) (B := fun s => m_takesFrom_b2 N l n q s.1 s.2) (s := (gm, 0)) (fun i s => s.2 = (i : Int) ∧ (∀ f j, gI s.1 f j = gI gm f j) ∧ ∀ b j, gA s.1 b j = if b = 26 ∧ j < i then gA gm l (q + j) else gA gm b j) 24 (fun g2 => (∀ f j, gI g2 f j = gI gm f j) ∧ ∀ b j, gA g2 b j = if b = 26 ∧ j < 24 then gA gm l (q + j) else gA gm b j) (fun i s hi hs => by
    obtain ⟨g2, j⟩ := s
    obtain ⟨rfl, q1, q2⟩ := hs
    dsimp only at q1 q2
    have e26 : gA g2 l (q + i) = gA gm l (q + i) := by rw [q2, if_neg (fun e => hl e.1)]
    refine ⟨(sA g2 26 i (gA gm l (q + i)), ((i + 1 : Nat) : Int)), ?_, rfl, q1, fun b j => ?_⟩
    · unfold m_takesFrom_b2
      dsimp only
      rw [w32_of (by omega) (by omega), w32_of (by omega) (by omega), if_neg (by omega), rdA_atv e26 (by omega) (by omega) (by omega), obind_some, wrA_nat (by omega) (by omega), obind_some]
      rfl
    · rw [gA_sA, q2]
      by_cases e : b = 26 ∧ j = i
      · obtain ⟨e1, e2⟩ := e
        subst e1 e2
        rw [if_pos ⟨rfl, rfl⟩, if_pos ⟨rfl, by omega⟩]
      · rw [if_neg e]
        by_cases e3 : b = 26 ∧ j < i
        · rw [if_pos e3, if_pos ⟨e3.1, by omega⟩]
        · rw [if_neg e3, if_neg (fun e4 => by
            by_cases e5 : j = i
            · exact e ⟨e4.1, e5⟩
            · exact e3 ⟨e4.1, by omega⟩)]) (fun s hs => by
    obtain ⟨g2, j⟩ := s
    obtain ⟨rfl, q1, q2⟩ := hs
    exact ⟨g2, by unfold m_takesFrom_b2; dsimp only; rw [if_pos (by decide)], q1, q2⟩) ⟨rfl, fun _ _ => rfl, fun b j => by rw [if_neg (by omega)]⟩ (by omega)
  have e24 : gA g2 l (q + 24) = gA gm l (q + 24) := by rw [k3, if_neg (fun e => hl e.1)]
  rw [k1, obind_some, rdA_atv e24 (by omega) (by omega) (by omega), obind_some]
  refine ⟨_, rfl, fun f j => ?_, k3⟩
  rw [gI_sI, k2]
theorem row_keep {l q : Nat} {gm1 : GS} (hn : p.n ≤ 12) (h : MPl gm p) (k : ∀ b j, gA gm1 b j = if b = l ∧ q ≤ j ∧ j < q + 25 then (if j = q + 24 then (p.n : Int) else gA gm 26 (j - q)) else gA gm b j) : MRow l q gm1 p := by
  refine MRow.mk ?_ (fun i hi => ?_) (fun i hi => ?_)
  · rw [k, if_pos ⟨rfl, by omega, by omega⟩, if_pos rfl]
  · rw [k, if_pos ⟨rfl, by omega, by omega⟩, if_neg (by omega), show q + 2 * i - q = 2 * i by omega]; exact h.de i hi
  · rw [k, if_pos ⟨rfl, by omega, by omega⟩, if_neg (by omega), show q + 2 * i + 1 - q = 2 * i + 1 by omega]; exact h.wh i hi
theorem row_other {l l' q q' : Nat} {gm1 : GS} {x : Nat → Nat → Int} (h : MRow l' q' gm p) (hn : p.n ≤ 12) (hd : l' ≠ l ∨ q' + 25 ≤ q ∨ q + 25 ≤ q') (k : ∀ b j, gA gm1 b j = if b = l ∧ q ≤ j ∧ j < q + 25 then x b j else gA gm b j) : MRow l' q' gm1 p := MRow.mk (by rw [k, if_neg (by omega), h.n]) (fun i hi => by rw [k, if_neg (by omega), h.de i hi]) fun i hi => by rw [k, if_neg (by omega), h.wh i hi]
/-- one more change, on both sides -/
theorem changes_eq (hN : 100000000000000000000 ≤ N) (hW : WFK K) (h : Inv N t K z g (sI gm 900 0 0) a) (h394 : 394 ≤ z) : (a.ch = 20 ∧ x_changes K g = some (0, g) ∧ m_changes N (sI gm 900 0 0) = some (0, sI gm 900 0 0)) ∨ ∃ g1 gm1 a1, x_changes K g = some (1, g1) ∧ m_changes N (sI gm 900 0 0) = some (1, gm1) ∧ Inv N t K z g1 gm1 a1 ∧ a1.p = a.p ∧ a1.rd = a.rd ∧ gI gm1 900 0 = 0 := by
  have hc := h.c20
  have hz := h.rz
  by_cases e : a.ch = 20
  · refine Or.inl ⟨e, ?_, ?_⟩
    · unfold x_changes
      rw [h.xc, e, if_neg (by decide)]
    · unfold m_changes
      rw [h.mc, e, if_neg (by decide)]
  · right
    obtain ⟨gm1, k1, k2, k3⟩ := m_keepsIn_eq (N := N) (gm := sI gm 900 0 0) hN (l := 41) (n := 500) (q := 25 * a.ch) (by omega) (by omega) (by omega) h.mp.n
    obtain ⟨G, hG⟩ : ∃ G, G = sI g 16 0 ((a.ch : Int) + 1) := ⟨_, rfl⟩
    have pG : ∀ {o p}, XPl o g p → XPl o G p := fun hp => by subst hG; exact hp.mono (by rw [gI_sI, if_neg (by omega)]) (fun _ => rfl) fun _ => rfl
    have hPX : PX z g (asW G 3 (101 + 3 * a.ch)) := PX.trans (g1 := G) ⟨fun f q _ h2 _ => by subst hG; rw [gI_sI, if_neg (by omega)], fun q k _ _ _ _ => by subst hG; rfl⟩ (asW_PX (by omega))
    refine ⟨asW G 3 (101 + 3 * a.ch), sI gm1 970 0 ((a.ch : Int) + 1), Ab.mk a.r a.rd a.p a.lw (a.ch + 1) (fun i => if i = a.ch then a.p else a.bf i) a.kp a.im a.ib a.ic, ?_, ?_, h.plan hPX ⟨fun f q _ h2 _ => by rw [gI_sI, if_neg (by omega), k2], fun q k h1 h2 h3 => by
      show gA gm1 q k = _
      rw [k3, if_neg (by omega)]⟩ rfl rfl rfl h.pok (asW_other (by omega) (by omega) (pG h.xp)) (h.mp.mono (by rw [gI_sI, if_neg (by omega), k2]) fun k => by
      show gA gm1 26 k = _
      rw [k3, if_neg (by omega)]) (by show a.ch + 1 ≤ 20; omega) ?_ ?_ (fun i hi => ?_) (fun i hi => ?_) (fun i hi => ?_) h.k3 ?_ ?_ h.ic20 (fun q hq => ?_) (fun q hq => ?_) h.iok (fun q hq => ?_) (fun q hq => ?_) h.ibok (fun q i hq hi h2 => ?_) (fun q i hq hi h2 => ?_), rfl, rfl, ?_⟩
    · unfold x_changes
      rw [h.xc, w32_of (by omega) (by omega), w32_of (by omega) (by omega), if_pos (by omega), ← hG]
      rw [show rdQ K G 6 20 (a.ch : Int) 3 = some (101 + 3 * a.ch) from rdQ_of (by omega) (by omega) (by subst hG; exact h.b6 _ (by omega)) (kb hW (by omega)), obind_some, xPlan_as_eq, obind_some]
    · unfold m_changes
      rw [h.mc, w32_of (by omega) (by omega), w32_of (by omega) (by omega), if_pos (by omega), show 25 * (a.ch : Int) = ((25 * a.ch : Nat) : Int) by omega, k1, obind_some, k2, h.mc]
    · rw [asW_I, if_neg (by omega)]; subst hG; rw [gI_sI, if_pos ⟨rfl, rfl⟩]; rfl
    · rw [gI_sI, if_pos ⟨rfl, rfl⟩]; rfl
    · show PlOK a.rd (if i = a.ch then a.p else a.bf i)
      have hi : i < a.ch + 1 := hi
      split
      · exact h.pok
      · exact h.bok i (by omega)
    · show XPl (101 + 3 * i) _ (if i = a.ch then a.p else a.bf i)
      have hi : i < a.ch + 1 := hi
      by_cases e5 : i = a.ch
      · rw [if_pos e5, e5]; exact asW_pl h.pok.n (by omega) (pG h.xp)
      · rw [if_neg e5]; exact asW_other (by omega) (by omega) (pG (h.xb i (by omega)))
    · show MRow 41 (25 * i) _ (if i = a.ch then a.p else a.bf i)
      have hi : i < a.ch + 1 := hi
      by_cases e5 : i = a.ch
      · rw [if_pos e5, e5]; exact (row_keep h.pok.n h.mp k3).mono fun _ => rfl
      · rw [if_neg e5]; exact (row_other (h.mb i (by omega)) (h.bok i (by omega)).n (by omega) k3).mono fun _ => rfl
    · rw [asW_I, if_neg (by omega)]; subst hG; rw [gI_sI, if_neg (by omega)]; exact h.xk
    · rw [gI_sI, if_neg (by omega), k2]; exact h.mk3
    · rw [asW_A (by omega) (by omega)]; subst hG; exact h.xic q hq
    · show gA gm1 42 _ = _
      rw [k3, if_neg (by omega)]; exact h.mic q hq
    · exact asW_other (by have := h.k3; omega) (by have := h.k3; omega) (pG (h.xim q hq))
    · exact (row_other (h.mim q hq) (h.iok q hq).n (Or.inl (by omega)) k3).mono fun _ => rfl
    · exact asW_other (by omega) (by omega) (pG (h.xib q i hq hi h2))
    · exact (row_other (h.mib q i hq hi h2) (h.ibok q i hq hi).n (Or.inl (by omega)) k3).mono fun _ => rfl
    · rw [gI_sI, if_neg (by omega), k2]; exact th0
/-- another plan, all else as it was -/
theorem Inv.newp {p' : Pl} (h : Inv N t K z g gm a) (pok : PlOK a.rd p') (xp : XPl 3 g1 p') (mp : MPl gm1 p') (xI : ∀ f q, f ≠ 202 ∨ q ≠ 3 → gI g1 f q = gI g f q) (xA : ∀ q k, q ≠ 4 → q ≠ 5 → gA g1 q k = gA g q k) (mI : ∀ f q, f ≠ 949 → gI gm1 f q = gI gm f q) (mA : ∀ q k, q ≠ 26 → gA gm1 q k = gA gm q k) : ∃ a', Inv N t K z g1 gm1 a' := by
  have k3 := h.k3
  refine ⟨Ab.mk a.r a.rd p' a.lw a.ch a.bf a.kp a.im a.ib a.ic, h.plan ⟨fun f q h1 _ _ => xI f q (Or.inl h1), fun q k h1 h2 _ _ => xA q k h1 h2⟩ ⟨fun f q h1 _ _ => mI f q h1, fun q k h1 _ _ => mA q k h1⟩ rfl rfl rfl pok xp mp h.c20 (by rw [xI _ _ (by omega)]; exact h.xc) (by rw [mI _ _ (by omega)]; exact h.mc) h.bok (fun i hi => (h.xb i hi).mono (xI _ _ (by omega)) (fun k => xA _ _ (by omega) (by omega)) fun k => xA _ _ (by omega) (by omega)) (fun i hi => (h.mb i hi).mono fun k => mA _ _ (by omega)) h.k3 (by rw [xI _ _ (by omega)]; exact h.xk) (by rw [mI _ _ (by omega)]; exact h.mk3) h.ic20 (fun q hq => by rw [xA _ _ (by omega) (by omega)]; exact h.xic q hq) (fun q hq => by rw [mA _ _ (by omega)]; exact h.mic q hq) h.iok (fun q hq => (h.xim q hq).mono (xI _ _ (by omega)) (fun k => xA _ _ (by omega) (by omega)) fun k => xA _ _ (by omega) (by omega)) (fun q hq => (h.mim q hq).mono fun k => mA _ _ (by omega)) h.ibok (fun q i hq hi h2 => (h.xib q i hq hi h2).mono (xI _ _ (by omega)) (fun k => xA _ _ (by omega) (by omega)) fun k => xA _ _ (by omega) (by omega)) (fun q i hq hi h2 => (h.mib q i hq hi h2).mono fun k => mA _ _ (by omega))⟩
theorem Inv.th (h : Inv N t K z g gm a) (h394 : 394 ≤ z) : Inv N t K z g (sI gm 900 0 0) a := (h.val0 .refl .th h394).zset h.zb
theorem Inv.fin (h : ∃ a, Inv N t K z g1 gm1 a) (h394 : 394 ≤ z) : ∃ a, Inv N (t + 1) K z (sA g1 393 0 v) gm1 a := by
  obtain ⟨a, h⟩ := h
  exact ⟨a, h.val .refl .refl h394⟩
/-- refused: the lines -/
theorem s_hand (hN : 100000000000000000000 ≤ N) (hW : WFK K) (h : Inv N t K z g gm a) (h394 : 394 ≤ z) (ht : t < 64) (e1 : w32 a1 = a1) (e2 : w32 a2 = a2) : StepOK N t (lc_42 N K z g gm a1 a2 a3 a4 a5 a6) := by
  have hP := h.ok.P
  have hn := h.pok.n
  have hth := h.th h394
  have hpw := pow_le6 (n := a.rd.P) (by omega)
  have r0 := rdR_of h.r12 h.kr
  by_cases hc : 0 ≤ a1 ∧ a1 < a.p.n
  · obtain ⟨l, rfl⟩ := nat_of hc.1
    have hl : l < a.p.n := by omega
    by_cases hd : 1 ≤ a2 ∧ a2 ≤ ((2 ^ a.rd.P : Nat) : Int) - 1
    · obtain ⟨q, rfl⟩ := nat_of (x := a2) (by omega)
      have hp16 : 2 ^ a.rd.P ≤ 2 ^ 4 := Nat.pow_le_pow_right (by omega) hP
      have hib := i_bits_eq (w := q) (by omega)
      have hpb := popS_bd q
      have hp1 : 1 ≤ popS q := by
        have : ∀ q : Nat, q < 16 → 1 ≤ q → 1 ≤ popS q := by decide
        exact this q (by omega) (by omega)
      by_cases hp2 : popS q ≤ 2
      · have X : ∀ (res : Int × GS) (f : Int × GS → Option ((Nat × GS) ⊕ (Int × GS))), x_changes K g = some res → (if ¬ w32 res.1 = 0 then (wrA res.2 5 12 l q).bind fun g50 => some (.inr (1, g50)) else some (.inr ((-1), res.2))) = f res → x_hand K g l q = f res := by
          intro res f q1 q2
          unfold x_hand
          rw [x_lineOf_ok h hl, obind_some]
          dsimp only [thT]
          rw [r0, obind_some, h.xr.P, shl1 (by omega), x_within_ok (by rw [e2, w32_of (by omega) (by omega)]; omega) (by rw [e2, w32_pow1 (by omega)]; omega), obind_some]
          dsimp only
          rw [hib, x_within_ok (by rw [w32_of (by omega) (by omega), w32_of (by omega) (by omega)]; omega) (by rw [w32_of (by omega) (by omega), w32_of (by omega) (by omega)]; omega), obind_some]
          dsimp only
          rw [q1, obind_some]
          exact q2
        have Y : ∀ (res : Int × GS) (f : Int × GS → Option (Int × GS)), m_changes N (sI gm 900 0 0) = some res → (if ¬ w32 res.1 = 0 then (wrA res.2 26 24 ((2 * (l : Int)) + 1) q).bind fun g72 => some (1, g72) else some ((-1), res.2)) = f res → m_hand N gm l q = f res := by
          intro res f q1 q2
          unfold m_hand m_hand_j43
          rw [m_isLine_ok h hl, obind_some, if_neg wz1]
          dsimp only
          rw [(mrd_th h.mr).P, shl1 (by omega), w32_pow (by omega), e2, if_neg (by omega), if_neg (by omega), m_onesOf_eq hN (by omega), obind_some, w32_of (by omega) (by omega), w32_of (by omega) (by omega), if_neg (by omega), m_may_ok th0, obind_some, if_pos wz1]
          dsimp only
          rw [q1, obind_some]
          exact q2
        rcases changes_eq hN hW hth h394 with ⟨c1, c2, c3⟩ | ⟨g1, gm1, b1, c1, c2, c3, c4, c5, c6⟩
        · exact o_hand_v (v := -1) (w := -1) (X (0, g) (fun _ => some (.inr (-1, g))) c2 (if_neg wz0)) (Y (0, sI gm 900 0 0) (fun _ => some (-1, sI gm 900 0 0)) c3 (if_neg wz0)) th0 rfl (h.val .refl .th h394)
        · have xp : XPl 3 (sA g1 5 l q) (Pl.mk a.p.n a.p.de (fun k => if k = l then q else a.p.wh k)) := by
            have xp0 := c3.xp
            rw [c4] at xp0
            refine XPl.mk xp0.n (fun k hk => ?_) (fun k hk => ?_)
            · rw [gA_sA, if_neg (by omega)]; exact xp0.de k hk
            · show gA (sA g1 5 l q) 5 k = ((if k = l then q else a.p.wh k : Nat) : Int)
              rw [gA_sA]
              by_cases e : k = l
              · rw [if_pos ⟨rfl, e⟩, if_pos e]
              · rw [if_neg (fun q => e q.2), if_neg e]; exact xp0.wh k hk
          have mp : MPl (sA gm1 26 (2 * l + 1) q) (Pl.mk a.p.n a.p.de (fun k => if k = l then q else a.p.wh k)) := by
            have mp0 := c3.mp
            rw [c4] at mp0
            refine MPl.mk mp0.n (fun k hk => ?_) (fun k hk => ?_)
            · rw [gA_sA, if_neg (by omega)]; exact mp0.de k hk
            · show gA (sA gm1 26 (2 * l + 1) q) 26 (2 * k + 1) = ((if k = l then q else a.p.wh k : Nat) : Int)
              rw [gA_sA]
              by_cases e : k = l
              · rw [if_pos ⟨rfl, by omega⟩, if_pos e]
              · rw [if_neg (by omega), if_neg e]; exact mp0.wh k hk
          have po : PlOK b1.rd (Pl.mk a.p.n a.p.de (fun k => if k = l then q else a.p.wh k)) := by
            rw [c5]
            refine PlOK.mk h.pok.n h.pok.de (fun k hk => ?_) h.pok.di
            show 1 ≤ (if k = l then q else a.p.wh k) ∧ (if k = l then q else a.p.wh k) < 2 ^ a.rd.P
            split
            · omega
            · exact h.pok.wh k hk
          have I := Inv.fin (v := w32 1) (c3.newp po xp mp (fun _ _ _ => rfl) (fun b j h1 h2 => by rw [gA_sA, if_neg (by omega)]) (fun _ _ _ => rfl) (fun b j h1 => by rw [gA_sA, if_neg (by omega)])) h394
          obtain ⟨a', I⟩ := I
          refine o_hand_v (v := 1) (w := 1) (X (1, g1) (fun _ => some (.inr (1, sA g1 5 l q))) c1 ?_) (Y (1, gm1) (fun _ => some (1, sA gm1 26 (2 * l + 1) q)) c2 ?_) c6 rfl I
          · rw [if_pos wz1, wrA_nat (by omega) (by omega), obind_some]
          · rw [if_pos wz1, wrA_at (2 * l + 1) (by omega) (by omega) (by omega), obind_some]
      · refine o_hand_r1 (w := 0) ?_ ?_ h394 ht h
        · unfold x_hand
          rw [x_lineOf_ok h hl, obind_some]
          dsimp only [thT]
          rw [r0, obind_some, h.xr.P, shl1 (by omega), x_within_ok (by rw [e2, w32_of (by omega) (by omega)]; omega) (by rw [e2, w32_pow1 (by omega)]; omega), obind_some]
          dsimp only
          rw [hib, x_within_no (by rw [w32_of (by omega) (by omega), w32_of (by omega) (by omega), w32_of (by omega) (by omega)]; omega), obind_some]
        · unfold m_hand m_hand_j42 m_hand_j43
          rw [m_isLine_ok h hl, obind_some, if_neg wz1]
          dsimp only
          rw [(mrd_th h.mr).P, shl1 (by omega), w32_pow (by omega), e2, if_neg (by omega), if_neg (by omega), m_onesOf_eq hN (by omega), obind_some, w32_of (by omega) (by omega), w32_of (by omega) (by omega), if_pos (by omega), m_may_no1 th0 (by omega), obind_some, if_neg wz0]
          rfl
    · refine o_hand_r1 (w := 0) ?_ ?_ h394 ht h
      · unfold x_hand
        rw [x_lineOf_ok h hl, obind_some]
        dsimp only [thT]
        rw [r0, obind_some, h.xr.P, shl1 (by omega), x_within_no (by rw [e2, w32_of (by omega) (by omega), w32_pow1 (by omega)]; exact hd), obind_some]
      · unfold m_hand m_hand_j42 m_hand_j43
        rw [m_isLine_ok h hl, obind_some, if_neg wz1]
        dsimp only
        rw [(mrd_th h.mr).P, shl1 (by omega), w32_pow (by omega), e2, m_may_no1 th0 (by omega), obind_some, if_neg wz0]
        by_cases q : a2 ≤ 0
        · rw [if_pos q]; rfl
        · rw [if_neg q, if_pos (by omega)]; rfl
  · refine o_hand_r0 (w := 0) ?_ ?_ h394 ht h
    · unfold x_hand
      rw [x_lineOf_no h e1 hc]
      rfl
    · unfold m_hand
      rw [m_isLine_no h e1 hc, obind_some, if_pos w32_z]
