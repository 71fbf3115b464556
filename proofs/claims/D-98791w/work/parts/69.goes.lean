set_option maxRecDepth 100000
/-! PLAIN 10: a plan gone through -/
variable {N : Nat} {K : Nat → Nat} {r o z : Nat} {g gm : GS} {rd : Rd} {lw : Int → Int → Int → Int → Int → Int → Int} {more : Nat → Int} {drawn : Bool} {s : Wt} {M : Int}
def Pl : Type := (Nat) × (Nat → Nat) × (Nat → Nat)
def Pl.n (h_ : Pl) : Nat := h_.1
def Pl.de (h_ : Pl) : Nat → Nat := h_.2.1
def Pl.wh (h_ : Pl) : Nat → Nat := h_.2.2
def Pl.mk (n_ : Nat) (de_ : Nat → Nat) (wh_ : Nat → Nat) : Pl := (n_, de_, wh_)
def PlOK (rd : Rd) (p : Pl) : Prop := (p.n ≤ 12) ∧ (∀ k, k < p.n → p.de k < rd.D) ∧ (∀ k, k < p.n → 1 ≤ p.wh k ∧ p.wh k < 2 ^ rd.P) ∧ (∀ i j, i < j → j < p.n → p.de i ≠ p.de j)
theorem PlOK.n {rd : Rd} {p : Pl} (h_ : PlOK rd p) : p.n ≤ 12 := h_.1
theorem PlOK.de {rd : Rd} {p : Pl} (h_ : PlOK rd p) : ∀ k, k < p.n → p.de k < rd.D := h_.2.1
theorem PlOK.wh {rd : Rd} {p : Pl} (h_ : PlOK rd p) : ∀ k, k < p.n → 1 ≤ p.wh k ∧ p.wh k < 2 ^ rd.P := h_.2.2.1
theorem PlOK.di {rd : Rd} {p : Pl} (h_ : PlOK rd p) : ∀ i j, i < j → j < p.n → p.de i ≠ p.de j := h_.2.2.2
theorem PlOK.mk {rd : Rd} {p : Pl} (n_ : p.n ≤ 12) (de_ : ∀ k, k < p.n → p.de k < rd.D) (wh_ : ∀ k, k < p.n → 1 ≤ p.wh k ∧ p.wh k < 2 ^ rd.P) (di_ : ∀ i j, i < j → j < p.n → p.de i ≠ p.de j) : PlOK rd p := ⟨n_, de_, wh_, di_⟩
def XPl (o : Nat) (g : GS) (p : Pl) : Prop := (gI g 202 o = p.n) ∧ (∀ k, k < p.n → gA g (o + 1) k = p.de k) ∧ (∀ k, k < p.n → gA g (o + 2) k = p.wh k)
theorem XPl.n {o : Nat} {g : GS} {p : Pl} (h_ : XPl o g p) : gI g 202 o = p.n := h_.1
theorem XPl.de {o : Nat} {g : GS} {p : Pl} (h_ : XPl o g p) : ∀ k, k < p.n → gA g (o + 1) k = p.de k := h_.2.1
theorem XPl.wh {o : Nat} {g : GS} {p : Pl} (h_ : XPl o g p) : ∀ k, k < p.n → gA g (o + 2) k = p.wh k := h_.2.2
theorem XPl.mk {o : Nat} {g : GS} {p : Pl} (n_ : gI g 202 o = p.n) (de_ : ∀ k, k < p.n → gA g (o + 1) k = p.de k) (wh_ : ∀ k, k < p.n → gA g (o + 2) k = p.wh k) : XPl o g p := ⟨n_, de_, wh_⟩
def MPl (g : GS) (p : Pl) : Prop := (gI g 949 0 = p.n) ∧ (∀ k, k < p.n → gA g 26 (2 * k) = p.de k) ∧ (∀ k, k < p.n → gA g 26 (2 * k + 1) = p.wh k)
theorem MPl.n {g : GS} {p : Pl} (h_ : MPl g p) : gI g 949 0 = p.n := h_.1
theorem MPl.de {g : GS} {p : Pl} (h_ : MPl g p) : ∀ k, k < p.n → gA g 26 (2 * k) = p.de k := h_.2.1
theorem MPl.wh {g : GS} {p : Pl} (h_ : MPl g p) : ∀ k, k < p.n → gA g 26 (2 * k + 1) = p.wh k := h_.2.2
theorem MPl.mk {g : GS} {p : Pl} (n_ : gI g 949 0 = p.n) (de_ : ∀ k, k < p.n → gA g 26 (2 * k) = p.de k) (wh_ : ∀ k, k < p.n → gA g 26 (2 * k + 1) = p.wh k) : MPl g p := ⟨n_, de_, wh_⟩
theorem XPl.mono {g' : GS} {p : Pl} (h : XPl o g p) (h1 : gI g' 202 o = gI g 202 o) (h2 : ∀ k, gA g' (o + 1) k = gA g (o + 1) k) (h3 : ∀ k, gA g' (o + 2) k = gA g (o + 2) k) : XPl o g' p := XPl.mk (by rw [h1, h.n]) (fun k hk => by rw [h2, h.de k hk]) fun k hk => by rw [h3, h.wh k hk]
theorem MPl.mono {g' : GS} {p : Pl} (h : MPl gm p) (h1 : gI g' 949 0 = gI gm 949 0) (h2 : ∀ k, gA g' 26 k = gA gm 26 k) : MPl g' p := MPl.mk (by rw [h1, h.n]) (fun k hk => by rw [h2, h.de k hk]) fun k hk => by rw [h2, h.wh k hk]
theorem wh16 (ok : RdOK rd) {p : Pl} (hp : PlOK rd p) {k : Nat} (hk : k < p.n) : p.wh k < 16 := by
  have h1 := hp.wh k hk
  have h2 := ok.P
  have : 2 ^ rd.P ≤ 2 ^ 4 := Nat.pow_le_pow_right (by omega) h2
  omega
def goesS (rd : Rd) (lw : Int → Int → Int → Int → Int → Int → Int) (more : Nat → Int) (drawn : Bool) (p : Pl) : Nat → Wt → Wt
  | 0, s => s
  | i + 1, s => comesS rd lw more drawn i (p.de i) (p.wh i) (goesS rd lw more drawn p i s)
theorem goesB (ok : RdOK rd) (hlw : lwOK lw) (hM0 : 0 ≤ M) (hmo : ∀ d, d < 12 → 0 ≤ more d ∧ more d ≤ 100) {p : Pl} (hp : PlOK rd p) (hb : WtB M s) : ∀ i, i ≤ p.n → WtB (M + 300 * i) (goesS rd lw more drawn p i s)
  | 0, _ => by simpa [goesS] using hb
  | i + 1, h => by
    have h1 := goesB ok hlw hM0 hmo hp hb i (by omega)
    have h2 := lineB (drawn := drawn) (k := i) (w := p.wh i) ok hlw (by omega) hmo (hp.de i (by omega)) h1
    rw [show M + 300 * ((i + 1 : Nat) : Int) = M + 300 * (i : Int) + 300 by omega]
    exact h2
def WtE (i : Nat) (s : Wt) (s' : Wt) : Prop := (∀ k, k < i → s.be k = s'.be k) ∧ (∀ k, k < i → s.en k = s'.en k) ∧ (s.eo = s'.eo) ∧ (s.fr = s'.fr) ∧ (s.we = s'.we) ∧ (s.bu = s'.bu) ∧ (s.sp = s'.sp) ∧ (s.ag = s'.ag) ∧ (s.lo = s'.lo)
theorem WtE.be {i : Nat} {s : Wt} {s' : Wt} (h_ : WtE i s s') : ∀ k, k < i → s.be k = s'.be k := h_.1
theorem WtE.en {i : Nat} {s : Wt} {s' : Wt} (h_ : WtE i s s') : ∀ k, k < i → s.en k = s'.en k := h_.2.1
theorem WtE.eo {i : Nat} {s : Wt} {s' : Wt} (h_ : WtE i s s') : s.eo = s'.eo := h_.2.2.1
theorem WtE.fr {i : Nat} {s : Wt} {s' : Wt} (h_ : WtE i s s') : s.fr = s'.fr := h_.2.2.2.1
theorem WtE.we {i : Nat} {s : Wt} {s' : Wt} (h_ : WtE i s s') : s.we = s'.we := h_.2.2.2.2.1
theorem WtE.bu {i : Nat} {s : Wt} {s' : Wt} (h_ : WtE i s s') : s.bu = s'.bu := h_.2.2.2.2.2.1
theorem WtE.sp {i : Nat} {s : Wt} {s' : Wt} (h_ : WtE i s s') : s.sp = s'.sp := h_.2.2.2.2.2.2.1
theorem WtE.ag {i : Nat} {s : Wt} {s' : Wt} (h_ : WtE i s s') : s.ag = s'.ag := h_.2.2.2.2.2.2.2.1
theorem WtE.lo {i : Nat} {s : Wt} {s' : Wt} (h_ : WtE i s s') : s.lo = s'.lo := h_.2.2.2.2.2.2.2.2
theorem WtE.mk {i : Nat} {s : Wt} {s' : Wt} (be_ : ∀ k, k < i → s.be k = s'.be k) (en_ : ∀ k, k < i → s.en k = s'.en k) (eo_ : s.eo = s'.eo) (fr_ : s.fr = s'.fr) (we_ : s.we = s'.we) (bu_ : s.bu = s'.bu) (sp_ : s.sp = s'.sp) (ag_ : s.ag = s'.ag) (lo_ : s.lo = s'.lo) : WtE i s s' := ⟨be_, en_, eo_, fr_, we_, bu_, sp_, ag_, lo_⟩
theorem setN_eq {f f' : Nat → Int} {k : Nat} {v : Int} (h : ∀ j, j < k → f j = f' j) : ∀ j, j < k + 1 → setN f k v j = setN f' k v j := by
  intro j hj
  unfold setN
  split
  · rfl
  · exact h j (by omega)
theorem comesE {i d w : Nat} {s' : Wt} (h : WtE i s s') : WtE (i + 1) (comesS rd lw more drawn i d w s) (comesS rd lw more drawn i d w s') := by
  obtain ⟨be, en, eo, fr, we, bu, sp, ag, lo⟩ := s
  obtain ⟨be', en', eo', fr', we', bu', sp', ag', lo'⟩ := s'
  obtain ⟨h1, h2, h3, h4, h5, h6, h7, h8, h9⟩ := h
  cases (show eo = eo' from h3)
  cases (show fr = fr' from h4)
  cases (show we = we' from h5)
  cases (show bu = bu' from h6)
  cases (show sp = sp' from h7)
  cases (show ag = ag' from h8)
  cases (show lo = lo' from h9)
  unfold comesS
  show WtE (i + 1) (if (doneS rd d w && readyB rd eo d) = true then _ else _) (if (doneS rd d w && readyB rd eo d) = true then _ else _)
  split
  · exact ⟨setN_eq h1, setN_eq h2, rfl, rfl, rfl, rfl, rfl, rfl, rfl⟩
  · exact ⟨setN_eq h1, setN_eq h2, rfl, rfl, rfl, rfl, rfl, rfl, rfl⟩
theorem goesE {p : Pl} {s' : Wt} (h : WtE 0 s s') : ∀ i, WtE i (goesS rd lw more drawn p i s) (goesS rd lw more drawn p i s')
  | 0 => h
  | i + 1 => comesE (goesE h i)
/-- as a watch starts -/
def st0 (be en : Nat → Int) (lo : Int) : Wt := Wt.mk be en (fun _ => -1) (fun _ => 0) (fun _ => 0) (fun _ => 0) 0 0 lo
theorem st0B (be en : Nat → Int) (lo : Int) : WtB 0 (st0 be en lo) := by
  have h1 : (-1 : Int) ≤ -1 ∧ (-1 : Int) ≤ 0 := by decide
  have h2 : (0 : Int) ≤ 0 ∧ (0 : Int) ≤ 0 := by decide
  exact WtB.mk (fun _ _ => h1) (fun _ _ => h2) (fun _ _ => h2) (fun _ _ => h2) h2 h2
theorem st0E (be en be' en' : Nat → Int) (lo : Int) : WtE 0 (st0 be en lo) (st0 be' en' lo) := ⟨fun k h => by omega, fun k h => by omega, rfl, rfl, rfl, rfl, rfl, rfl, rfl⟩
theorem xWatch_starts_eq (hN : 100000000000000000000 ≤ N) (lo : Int) : ∃ g', xWatch_starts N o r g = some g' ∧ WFr o g g' ∧ XW r o g' rd (fun _ => 0) false (st0 (gA g (o + 1)) (gA g (o + 2)) lo) ∧ gI g' 312 o = -1 := by
  unfold xWatch_starts
  obtain ⟨g1, h1, h2, h3, h4⟩ := loop_ex (N := N) (B := fun s => xWatch_starts_b7 N o r s.1 s.2) (s := ((sI g 308 o r), 0)) (fun i s => s.2 = (i : Int) ∧ (∀ f q, gI s.1 f q = gI (sI g 308 o r) f q) ∧ (∀ q j, q ≠ o + 3 → gA s.1 q j = gA g q j) ∧ ∀ j, j < i → gA s.1 (o + 3) j = -1) 12 (fun g1 => (∀ f q, gI g1 f q = gI (sI g 308 o r) f q) ∧ (∀ q j, q ≠ o + 3 → gA g1 q j = gA g q j) ∧ ∀ j, j < 12 → gA g1 (o + 3) j = -1) (fun i s hi hs => by
    obtain ⟨g1, j⟩ := s
    obtain ⟨rfl, q1, q2, q3⟩ := hs
    refine ⟨(sA g1 (o + 3) i (-1), ((i + 1 : Nat) : Int)), by simp (disch := omega) [w32_of, bit_at, rdA_nat, wrA_nat, obind_some, outR_eq, xWatch_starts_b7, show ¬((12 : Int) ≤ i) by omega], rfl, q1, fun q j hq => ?_, fun j hj => ?_⟩
    · simp only [gA_sA]; rw [if_neg (by omega)]; exact q2 q j hq
    · by_cases e : j = i
      · simp [gA_sA, e]
      · simp only [gA_sA]; rw [if_neg (by omega)]; exact q3 j (by omega)) (fun s hs => by
    obtain ⟨g1, j⟩ := s
    obtain ⟨rfl, q1, q2, q3⟩ := hs
    exact ⟨g1, by simp (disch := omega) [w32_of, bit_at, rdA_nat, wrA_nat, obind_some, outR_eq, xWatch_starts_b7], q1, q2, q3⟩) ⟨rfl, fun _ _ => rfl, fun _ _ _ => rfl, fun j hj => by omega⟩ (by omega)
  rw [h1, obind_some]
  obtain ⟨g2, k1, k2, k3, k4⟩ := loop_ex (N := N) (B := fun s => xWatch_starts_b28 N o r s.1 s.2) (s := (g1, 0)) (fun i s => s.2 = (i : Int) ∧ (∀ f q, gI s.1 f q = gI g1 f q) ∧ (∀ q j, q ≠ o + 4 → q ≠ o + 5 → q ≠ o + 6 → gA s.1 q j = gA g1 q j) ∧ ∀ j, j < i → gA s.1 (o + 4) j = 0 ∧ gA s.1 (o + 5) j = 0 ∧ gA s.1 (o + 6) j = 0) 4 (fun g2 => (∀ f q, gI g2 f q = gI g1 f q) ∧ (∀ q j, q ≠ o + 4 → q ≠ o + 5 → q ≠ o + 6 → gA g2 q j = gA g1 q j) ∧ ∀ j, j < 4 → gA g2 (o + 4) j = 0 ∧ gA g2 (o + 5) j = 0 ∧ gA g2 (o + 6) j = 0) (fun i s hi hs => by
    obtain ⟨g2, j⟩ := s
    obtain ⟨rfl, q1, q2, q3⟩ := hs
    refine ⟨(sA (sA (sA g2 (o + 4) i 0) (o + 5) i 0) (o + 6) i 0, ((i + 1 : Nat) : Int)), by simp (disch := omega) [w32_of, bit_at, rdA_nat, wrA_nat, obind_some, outR_eq, xWatch_starts_b28, show ¬((4 : Int) ≤ i) by omega], rfl, q1, fun q j hq hq2 hq3 => ?_, fun j hj => ?_⟩
    · simp only [gA_sA]; rw [if_neg (by omega), if_neg (by omega), if_neg (by omega)]; exact q2 q j hq hq2 hq3
    · by_cases e : j = i
      · simp [gA_sA, e]
      · simp only [gA_sA]; rw [if_neg (by omega), if_neg (by omega), if_neg (by omega), if_neg (by omega), if_neg (by omega), if_neg (by omega), if_neg (by omega), if_neg (by omega), if_neg (by omega)]; exact q3 j (by omega)) (fun s hs => by
    obtain ⟨g2, j⟩ := s
    obtain ⟨rfl, q1, q2, q3⟩ := hs
    exact ⟨g2, by simp (disch := omega) [w32_of, bit_at, rdA_nat, wrA_nat, obind_some, outR_eq, xWatch_starts_b28], q1, q2, q3⟩) ⟨rfl, fun _ _ => rfl, fun _ _ _ _ _ => rfl, fun j hj => by omega⟩ (by omega)
  rw [k1, obind_some]
  obtain ⟨G, hG⟩ : ∃ G, G = sI (sI (sI (sI g2 309 o 0) 310 o 0) 314 o 0) 312 o (-1) := ⟨_, rfl⟩
  rw [← hG]
  have a1 : ∀ q j, gA G q j = gA g2 q j := by subst hG; exact fun _ _ => rfl
  have a2 : ∀ f q, gI G f q = if f = 312 ∧ q = o then -1 else if f = 314 ∧ q = o then 0 else if f = 310 ∧ q = o then 0 else if f = 309 ∧ q = o then 0 else if f = 308 ∧ q = o then (r : Int) else gI g f q := by
    intro f q; subst hG
    simp only [gI_sI]
    rw [k2, h2, gI_sI]
  refine ⟨G, rfl, ⟨fun f q hf => ?_, fun f q hq _ => ?_, fun q j hq => ?_⟩, XW.mk ?_ (fun j hj => ?_) (fun j hj => ?_) (fun j hj => ?_) (fun j hj => ?_) (fun j hj => ?_) (fun j hj => ?_) ?_ ?_ (fun h => by cases h) ?_ (fun d hd => ?_) ?_, ?_⟩
  · rw [a2, if_neg (by omega), if_neg (by omega), if_neg (by omega), if_neg (by omega), if_neg (by omega)]
  · rw [a2, if_neg (by omega), if_neg (by omega), if_neg (by omega), if_neg (by omega), if_neg (by omega)]
  · rw [a1, k3 _ _ (by omega) (by omega) (by omega), h3 _ _ (by omega)]
  · rw [a2]; simp
  · rw [a1, k3 _ _ (by omega) (by omega) (by omega), h3 _ _ (by omega)]; rfl
  · rw [a1, k3 _ _ (by omega) (by omega) (by omega), h3 _ _ (by omega)]; rfl
  · rw [a1, k3 _ _ (by omega) (by omega) (by omega), h4 _ (by omega)]; rfl
  · rw [a1, (k4 _ hj).1]; rfl
  · rw [a1, (k4 _ hj).2.1]; rfl
  · rw [a1, (k4 _ hj).2.2]; rfl
  · rw [a2]; simp; rfl
  · rw [a2]; simp; rfl
  · rw [a2]; simp
  · rw [a2 312]
    simp only [true_and, if_true]
    rw [if_neg (by omega)]
  · rw [a2]; simp
  · rw [a2]; simp
theorem xWatch_goes_eq (hN : 100000000000000000000 ≤ N) (ok : RdOK rd) (hlw : lwOK lw) (h : XRd r g rd) (hK : K r = 9) (hl : XLw K z g lw) {p : Pl} (hp : PlOK rd p) (hpl : XPl 3 g p) (hx : XW r 14 g rd more drawn s) (hb : WtB 0 s) (hmo : ∀ d, d < 12 → 0 ≤ more d ∧ more d ≤ 100) (hdm : drawn = true → ∀ d, d < 12 → more d = 0) (ho : 22 ≤ r) : ∃ g', xWatch_goes N K 14 3 g = some g' ∧ XW r 14 g' rd more drawn (goesS rd lw more drawn p p.n s) ∧ WFr 14 g g' := by
  have hn := hp.n
  unfold xWatch_goes
  obtain ⟨g', h1, h2, h3⟩ := loop_ex (N := N) (B := fun s => xWatch_goes_b2 N K 14 3 s.1 s.2) (s := (g, 0)) (fun i t => t.2 = (i : Int) ∧ XW r 14 t.1 rd more drawn (goesS rd lw more drawn p i s) ∧ WFr 14 g t.1) p.n (fun g' => XW r 14 g' rd more drawn (goesS rd lw more drawn p p.n s) ∧ WFr 14 g g') (fun i t hi ht => by
    obtain ⟨g1, j⟩ := t
    obtain ⟨rfl, q1, q2⟩ := ht
    have X1 := q2.xr h (Or.inl ho)
    have p1 : XPl 3 g1 p := hpl.mono (q2.1 _ _ (by omega)) (fun k => q2.2.2 _ _ (by omega)) fun k => q2.2.2 _ _ (by omega)
    have hB := goesB (drawn := drawn) ok hlw (Int.le_refl 0) hmo hp hb i (by omega)
    obtain ⟨g2, w1, w2, w3⟩ := xWatch_comes_eq hN ok hlw X1 hK (q2.xl hl) q1 hB (by omega) (by omega) hmo hdm (Or.inl ho) (k := i) (by omega) (hp.de i hi) (wh16 ok hp hi)
    refine ⟨(g2, ((i + 1 : Nat) : Int)), ?_, rfl, w2, q2.trans w3⟩
    unfold xWatch_goes_b2
    dsimp only
    rw [p1.n, w32_of (by omega) (by omega), w32_of (by omega) (by omega), if_neg (by omega), rdA_val (p1.de i hi) (by omega) (by omega), obind_some, rdA_val (p1.wh i hi) (by omega) (by omega), obind_some, w1]
    rfl) (fun t ht => by
    obtain ⟨g1, j⟩ := t
    obtain ⟨rfl, q1, q2⟩ := ht
    refine ⟨g1, ?_, q1, q2⟩
    unfold xWatch_goes_b2
    dsimp only
    have p1 : gI g1 202 3 = p.n := by rw [q2.1 _ _ (by omega), hpl.n]
    rw [p1, w32_of (by omega) (by omega), if_pos (by omega)]) ⟨rfl, hx, fun _ _ _ => rfl, fun _ _ _ _ => rfl, fun _ _ _ => rfl⟩ (by omega)
  rw [h1]
  exact ⟨g', rfl, h2, h3⟩
theorem m_goes_eq (hN : 100000000000000000000 ≤ N) (ok : RdOK rd) (hlw : lwOK lw) (h : MRd gm rd) (hl : MLw N gm lw) {p : Pl} (hp : PlOK rd p) (hpl : MPl gm p) (hm : ∀ d : Nat, d < 12 → gA gm 35 d = more d) (hmo : ∀ d, d < 12 → 0 ≤ more d ∧ more d ≤ 100) (drawn : Bool) : ∃ g' be en, m_goes N gm (if drawn then 1 else 0) = some ((goesS rd lw more drawn p p.n (st0 be en (gI gm 968 0))).sp, g') ∧ MW g' more (goesS rd lw more drawn p p.n (st0 be en (gI gm 968 0))) ∧ MFr gm g' := by
  have hn := hp.n
  unfold m_goes
  obtain ⟨g1, h1, h2, h3, h4⟩ := loop_ex (N := N) (B := fun s => m_goes_b2 N (if drawn then 1 else 0) s.1 s.2) (s := (gm, 0)) (fun i s => s.2 = (i : Int) ∧ (∀ f q, gI s.1 f q = gI gm f q) ∧ (∀ q j, q ≠ 31 → q ≠ 33 → q ≠ 34 → gA s.1 q j = gA gm q j) ∧ ∀ j, j < i → gA s.1 31 j = 0 ∧ gA s.1 33 j = 0 ∧ gA s.1 34 j = 0) 4 (fun g2 => (∀ f q, gI g2 f q = gI gm f q) ∧ (∀ q j, q ≠ 31 → q ≠ 33 → q ≠ 34 → gA g2 q j = gA gm q j) ∧ ∀ j, j < 4 → gA g2 31 j = 0 ∧ gA g2 33 j = 0 ∧ gA g2 34 j = 0) (fun i s hi hs => by
    obtain ⟨g2, j⟩ := s
    obtain ⟨rfl, q1, q2, q3⟩ := hs
    refine ⟨(sA (sA (sA g2 31 i 0) 33 i 0) 34 i 0, ((i + 1 : Nat) : Int)), by simp (disch := omega) [w32_of, bit_at, rdA_nat, wrA_nat, obind_some, outR_eq, m_goes_b2, show ¬((4 : Int) ≤ i) by omega], rfl, q1, fun q j hq hq2 hq3 => ?_, fun j hj => ?_⟩
    · simp only [gA_sA]; rw [if_neg (by omega), if_neg (by omega), if_neg (by omega)]; exact q2 q j hq hq2 hq3
    · by_cases e : j = i
      · simp [gA_sA, e]
      · simp [gA_sA, e]; exact q3 j (by omega)) (fun s hs => by
    obtain ⟨g2, j⟩ := s
    obtain ⟨rfl, q1, q2, q3⟩ := hs
    exact ⟨g2, by simp (disch := omega) [w32_of, bit_at, rdA_nat, wrA_nat, obind_some, outR_eq, m_goes_b2], q1, q2, q3⟩) ⟨rfl, fun _ _ => rfl, fun _ _ _ _ _ => rfl, fun j hj => by omega⟩ (by omega)
  rw [h1, obind_some]
  obtain ⟨g2, k1, k2, k3, k4⟩ := loop_ex (N := N) (B := fun s => m_goes_b36 N (if drawn then 1 else 0) s.1 s.2) (s := (g1, 0)) (fun i s => s.2 = (i : Int) ∧ (∀ f q, gI s.1 f q = gI g1 f q) ∧ (∀ q j, q ≠ 32 → gA s.1 q j = gA g1 q j) ∧ ∀ j, j < i → gA s.1 32 j = -1) 12 (fun g2 => (∀ f q, gI g2 f q = gI g1 f q) ∧ (∀ q j, q ≠ 32 → gA g2 q j = gA g1 q j) ∧ ∀ j, j < 12 → gA g2 32 j = -1) (fun i s hi hs => by
    obtain ⟨g2, j⟩ := s
    obtain ⟨rfl, q1, q2, q3⟩ := hs
    refine ⟨(sA g2 32 i (-1), ((i + 1 : Nat) : Int)), by simp (disch := omega) [w32_of, bit_at, rdA_nat, wrA_nat, obind_some, outR_eq, m_goes_b36, show ¬((12 : Int) ≤ i) by omega], rfl, q1, fun q j hq => ?_, fun j hj => ?_⟩
    · simp only [gA_sA]; rw [if_neg (by omega)]; exact q2 q j hq
    · by_cases e : j = i
      · simp [gA_sA, e]
      · simp [gA_sA, e]; exact q3 j (by omega)) (fun s hs => by
    obtain ⟨g2, j⟩ := s
    obtain ⟨rfl, q1, q2, q3⟩ := hs
    exact ⟨g2, by simp (disch := omega) [w32_of, bit_at, rdA_nat, wrA_nat, obind_some, outR_eq, m_goes_b36], q1, q2, q3⟩) ⟨rfl, fun _ _ => rfl, fun _ _ _ => rfl, fun j hj => by omega⟩ (by omega)
  rw [k1, obind_some]
  have f0 : MFr gm (sI g2 958 0 0) := ⟨fun f q q1 q2 => by rw [gI_sI, if_neg (by omega), k2, h2], fun a j q1 q2 q3 => by
    show gA g2 a j = _
    rw [k3 _ _ (by omega), h3 _ _ (by omega) (by omega) (by omega)]⟩
  have w0 : MW (sI g2 958 0 0) more (st0 (gA gm 29) (gA gm 30) (gI gm 968 0)) := by
    refine MW.mk (fun j hj => ?_) (fun j hj => ?_) (fun j hj => ?_) (fun j hj => ?_) (fun j hj => ?_) (fun j hj => ?_) rfl ?_ (fun d hd => ?_)
    · show gA g2 29 j = gA gm 29 j
      rw [k3 _ _ (by omega), h3 _ _ (by omega) (by omega) (by omega)]
    · show gA g2 30 j = gA gm 30 j
      rw [k3 _ _ (by omega), h3 _ _ (by omega) (by omega) (by omega)]
    · show gA g2 32 j = -1
      rw [k4 j hj]
    · show gA g2 31 j = 0
      rw [k3 _ _ (by omega), (h4 j hj).1]
    · show gA g2 33 j = 0
      rw [k3 _ _ (by omega), (h4 j hj).2.1]
    · show gA g2 34 j = 0
      rw [k3 _ _ (by omega), (h4 j hj).2.2]
    · show gI (sI g2 958 0 0) 968 0 = gI gm 968 0
      rw [gI_sI, if_neg (by omega), k2, h2]
    · show gA g2 35 d = _
      rw [k3 _ _ (by omega), h3 _ _ (by omega) (by omega) (by omega), hm d hd]
  obtain ⟨e, v1, v2, v3, v4⟩ := loop_ex (N := N) (B := fun s => m_goes_b64 N (if drawn then 1 else 0) s.1 s.2.1 s.2.2) (s := (sI g2 958 0 0, 0, 0)) (fun i t => t.2.2 = (i : Int) ∧ t.2.1 = (goesS rd lw more drawn p i (st0 (gA gm 29) (gA gm 30) (gI gm 968 0))).sp ∧ MW t.1 more (goesS rd lw more drawn p i (st0 (gA gm 29) (gA gm 30) (gI gm 968 0))) ∧ MFr gm t.1) p.n (fun e => e.1 = (goesS rd lw more drawn p p.n (st0 (gA gm 29) (gA gm 30) (gI gm 968 0))).sp ∧ MW e.2 more (goesS rd lw more drawn p p.n (st0 (gA gm 29) (gA gm 30) (gI gm 968 0))) ∧ MFr gm e.2) (fun i t hi ht => by
    obtain ⟨g3, sp, j⟩ := t
    obtain ⟨rfl, rfl, q1, q2⟩ := ht
    have p1 : MPl g3 p := hpl.mono (q2.1 _ _ (by omega) (by omega)) fun k => q2.2 _ _ (by omega) (by omega) (by omega)
    have hB := goesB (drawn := drawn) ok hlw (Int.le_refl 0) hmo hp (st0B (gA gm 29) (gA gm 30) (gI gm 968 0)) i (by omega)
    obtain ⟨g4, w1, w2, w3⟩ := m_comes_eq (drawn := drawn) hN ok hlw (q2.mr h) (q2.ml hl) q1 hB (by omega) (by omega) hmo p1.n (k := i) (by omega) (by omega) (p1.de i hi) (p1.wh i hi) (hp.de i hi) (wh16 ok hp hi)
    exact ⟨_, w1, rfl, rfl, w2, q2.trans w3⟩) (fun t ht => by
    obtain ⟨g3, sp, j⟩ := t
    obtain ⟨rfl, rfl, q1, q2⟩ := ht
    have p1 : gI g3 949 0 = p.n := by rw [q2.1 _ _ (by omega) (by omega), hpl.n]
    refine ⟨((goesS rd lw more drawn p p.n (st0 (gA gm 29) (gA gm 30) (gI gm 968 0))).sp, g3), ?_, rfl, q1, q2⟩
    unfold m_goes_b64
    dsimp only
    rw [p1, w32_of (by omega) (by omega), if_pos (by omega), outR_eq]) ⟨rfl, rfl, w0, f0⟩ (by omega)
  exact ⟨e.2, gA gm 29, gA gm 30, by rw [v1, ← v2], v3, v4⟩
