set_option maxRecDepth 100000
/-! PLAIN 6: a line comes, on both sides -/
variable {N : Nat} {K : Nat → Nat} {r o z : Nat} {g gm : GS} {rd : Rd} {lw : Int → Int → Int → Int → Int → Int → Int} {more : Nat → Int} {drawn : Bool} {s : Wt} {M : Int}
def readyB (rd : Rd) (e : Nat → Int) (d : Nat) : Bool := decide (∀ i, i < d → (rd.ne d).testBit i = true → e i ≠ -1)
theorem readyB_iff {e : Nat → Int} {d : Nat} : readyB rd e d = true ↔ readyS rd e d := decide_eq_true_iff
def drwS (lo : Int) : Int := i_rem (i_and (i_shr (lo * 1103515245 + 12345) 16) 32767) 16
theorem drwS_bd (lo : Int) : 0 ≤ drwS lo ∧ drwS lo ≤ 15 := by
  obtain ⟨n, h1, h2⟩ := i_and_nonneg (i_shr (lo * 1103515245 + 12345) 16) (m := 32767) (by omega)
  have h3 := i_rem_nat (a := n) (b := 16) (by omega) (by omega)
  have h4 : drwS lo = ((n % 16 : Nat) : Int) := by
    unfold drwS
    rw [show (32767 : Int) = ((32767 : Nat) : Int) from rfl, h2]
    exact h3
  rw [h4]
  omega
def againS (rd : Rd) (drawn : Bool) (s : Wt) : Bool := drawn && decide (drwS s.lo < rd.loses)
def nS (rd : Rd) (lw : Int → Int → Int → Int → Int → Int → Int) (more : Nat → Int) (drawn : Bool) (d w : Nat) (s : Wt) (b : Int) : Int := (if againS rd drawn s then lastS rd lw d w b.toNat * 2 else lastS rd lw d w b.toNat) + more d
def rnS (rd : Rd) (d : Nat) (b n : Int) : Int := if rd.ou d = 1 then rainS rd b.toNat n.toNat else 0
def lineS (rd : Rd) (lw : Int → Int → Int → Int → Int → Int → Int) (more : Nat → Int) (drawn : Bool) (k d w : Nat) (s : Wt) (b : Int) : Wt :=
  Wt.mk (setN s.be k b) (setN s.en k (b + nS rd lw more drawn d w s b)) (setN s.eo d (b + nS rd lw more drawn d w s b))
    (fun p => if p < rd.P ∧ w.testBit p = true then b + nS rd lw more drawn d w s b else s.fr p)
    (fun p => if p < rd.P ∧ w.testBit p = true then s.we p + rnS rd d b (nS rd lw more drawn d w s b) else s.we p)
    (fun p => if p < rd.P ∧ w.testBit p = true then s.bu p + nS rd lw more drawn d w s b else s.bu p)
    (max s.sp (b + nS rd lw more drawn d w s b)) (if againS rd drawn s then s.ag + 1 else s.ag) (if drawn then s.lo * 1103515245 + 12345 else s.lo)
def comesS (rd : Rd) (lw : Int → Int → Int → Int → Int → Int → Int) (more : Nat → Int) (drawn : Bool) (k d w : Nat) (s : Wt) : Wt :=
  if doneS rd d w && readyB rd s.eo d then lineS rd lw more drawn k d w s (begS rd s.eo s.fr d w)
  else Wt.mk (setN s.be k (-1)) (setN s.en k (-1)) s.eo s.fr s.we s.bu s.sp s.ag s.lo
def WtB (M : Int) (s : Wt) : Prop := (EoB M s.eo) ∧ (FrB M s.fr) ∧ (FrB M s.we) ∧ (FrB M s.bu) ∧ (0 ≤ s.sp ∧ s.sp ≤ M) ∧ (0 ≤ s.ag ∧ s.ag ≤ M)
theorem WtB.eo {M : Int} {s : Wt} (h_ : WtB M s) : EoB M s.eo := h_.1
theorem WtB.fr {M : Int} {s : Wt} (h_ : WtB M s) : FrB M s.fr := h_.2.1
theorem WtB.we {M : Int} {s : Wt} (h_ : WtB M s) : FrB M s.we := h_.2.2.1
theorem WtB.bu {M : Int} {s : Wt} (h_ : WtB M s) : FrB M s.bu := h_.2.2.2.1
theorem WtB.sp {M : Int} {s : Wt} (h_ : WtB M s) : 0 ≤ s.sp ∧ s.sp ≤ M := h_.2.2.2.2.1
theorem WtB.ag {M : Int} {s : Wt} (h_ : WtB M s) : 0 ≤ s.ag ∧ s.ag ≤ M := h_.2.2.2.2.2
theorem WtB.mk {M : Int} {s : Wt} (eo_ : EoB M s.eo) (fr_ : FrB M s.fr) (we_ : FrB M s.we) (bu_ : FrB M s.bu) (sp_ : 0 ≤ s.sp ∧ s.sp ≤ M) (ag_ : 0 ≤ s.ag ∧ s.ag ≤ M) : WtB M s := ⟨eo_, fr_, we_, bu_, sp_, ag_⟩
def XW (r : Nat) (o : Nat) (g : GS) (rd : Rd) (more : Nat → Int) (drawn : Bool) (s : Wt) : Prop := (gI g 308 o = r) ∧ (∀ k, k < 12 → gA g (o + 1) k = s.be k) ∧ (∀ k, k < 12 → gA g (o + 2) k = s.en k) ∧ (∀ k, k < 12 → gA g (o + 3) k = s.eo k) ∧ (∀ k, k < 4 → gA g (o + 4) k = s.fr k) ∧ (∀ k, k < 4 → gA g (o + 5) k = s.we k) ∧ (∀ k, k < 4 → gA g (o + 6) k = s.bu k) ∧ (gI g 309 o = s.sp) ∧ (gI g 310 o = s.ag) ∧ (drawn = true → 0 < rd.loses → gI g 311 o = s.lo) ∧ (gI g 314 o = if drawn then rd.loses else 0) ∧ (∀ d : Nat, d < 12 → (if (d : Int) = gI g 312 o then gI g 313 o else 0) = more d) ∧ (-1 ≤ gI g 312 o ∧ gI g 312 o < 12)
theorem XW.rr {r : Nat} {o : Nat} {g : GS} {rd : Rd} {more : Nat → Int} {drawn : Bool} {s : Wt} (h_ : XW r o g rd more drawn s) : gI g 308 o = r := h_.1
theorem XW.be {r : Nat} {o : Nat} {g : GS} {rd : Rd} {more : Nat → Int} {drawn : Bool} {s : Wt} (h_ : XW r o g rd more drawn s) : ∀ k, k < 12 → gA g (o + 1) k = s.be k := h_.2.1
theorem XW.en {r : Nat} {o : Nat} {g : GS} {rd : Rd} {more : Nat → Int} {drawn : Bool} {s : Wt} (h_ : XW r o g rd more drawn s) : ∀ k, k < 12 → gA g (o + 2) k = s.en k := h_.2.2.1
theorem XW.eo {r : Nat} {o : Nat} {g : GS} {rd : Rd} {more : Nat → Int} {drawn : Bool} {s : Wt} (h_ : XW r o g rd more drawn s) : ∀ k, k < 12 → gA g (o + 3) k = s.eo k := h_.2.2.2.1
theorem XW.fr {r : Nat} {o : Nat} {g : GS} {rd : Rd} {more : Nat → Int} {drawn : Bool} {s : Wt} (h_ : XW r o g rd more drawn s) : ∀ k, k < 4 → gA g (o + 4) k = s.fr k := h_.2.2.2.2.1
theorem XW.we {r : Nat} {o : Nat} {g : GS} {rd : Rd} {more : Nat → Int} {drawn : Bool} {s : Wt} (h_ : XW r o g rd more drawn s) : ∀ k, k < 4 → gA g (o + 5) k = s.we k := h_.2.2.2.2.2.1
theorem XW.bu {r : Nat} {o : Nat} {g : GS} {rd : Rd} {more : Nat → Int} {drawn : Bool} {s : Wt} (h_ : XW r o g rd more drawn s) : ∀ k, k < 4 → gA g (o + 6) k = s.bu k := h_.2.2.2.2.2.2.1
theorem XW.sp {r : Nat} {o : Nat} {g : GS} {rd : Rd} {more : Nat → Int} {drawn : Bool} {s : Wt} (h_ : XW r o g rd more drawn s) : gI g 309 o = s.sp := h_.2.2.2.2.2.2.2.1
theorem XW.ag {r : Nat} {o : Nat} {g : GS} {rd : Rd} {more : Nat → Int} {drawn : Bool} {s : Wt} (h_ : XW r o g rd more drawn s) : gI g 310 o = s.ag := h_.2.2.2.2.2.2.2.2.1
theorem XW.lo {r : Nat} {o : Nat} {g : GS} {rd : Rd} {more : Nat → Int} {drawn : Bool} {s : Wt} (h_ : XW r o g rd more drawn s) : drawn = true → 0 < rd.loses → gI g 311 o = s.lo := h_.2.2.2.2.2.2.2.2.2.1
theorem XW.ls {r : Nat} {o : Nat} {g : GS} {rd : Rd} {more : Nat → Int} {drawn : Bool} {s : Wt} (h_ : XW r o g rd more drawn s) : gI g 314 o = if drawn then rd.loses else 0 := h_.2.2.2.2.2.2.2.2.2.2.1
theorem XW.mo {r : Nat} {o : Nat} {g : GS} {rd : Rd} {more : Nat → Int} {drawn : Bool} {s : Wt} (h_ : XW r o g rd more drawn s) : ∀ d : Nat, d < 12 → (if (d : Int) = gI g 312 o then gI g 313 o else 0) = more d := h_.2.2.2.2.2.2.2.2.2.2.2.1
theorem XW.l2 {r : Nat} {o : Nat} {g : GS} {rd : Rd} {more : Nat → Int} {drawn : Bool} {s : Wt} (h_ : XW r o g rd more drawn s) : -1 ≤ gI g 312 o ∧ gI g 312 o < 12 := h_.2.2.2.2.2.2.2.2.2.2.2.2
theorem XW.mk {r : Nat} {o : Nat} {g : GS} {rd : Rd} {more : Nat → Int} {drawn : Bool} {s : Wt} (rr_ : gI g 308 o = r) (be_ : ∀ k, k < 12 → gA g (o + 1) k = s.be k) (en_ : ∀ k, k < 12 → gA g (o + 2) k = s.en k) (eo_ : ∀ k, k < 12 → gA g (o + 3) k = s.eo k) (fr_ : ∀ k, k < 4 → gA g (o + 4) k = s.fr k) (we_ : ∀ k, k < 4 → gA g (o + 5) k = s.we k) (bu_ : ∀ k, k < 4 → gA g (o + 6) k = s.bu k) (sp_ : gI g 309 o = s.sp) (ag_ : gI g 310 o = s.ag) (lo_ : drawn = true → 0 < rd.loses → gI g 311 o = s.lo) (ls_ : gI g 314 o = if drawn then rd.loses else 0) (mo_ : ∀ d : Nat, d < 12 → (if (d : Int) = gI g 312 o then gI g 313 o else 0) = more d) (l2_ : -1 ≤ gI g 312 o ∧ gI g 312 o < 12) : XW r o g rd more drawn s := ⟨rr_, be_, en_, eo_, fr_, we_, bu_, sp_, ag_, lo_, ls_, mo_, l2_⟩
def MW (g : GS) (more : Nat → Int) (s : Wt) : Prop := (∀ k, k < 12 → gA g 29 k = s.be k) ∧ (∀ k, k < 12 → gA g 30 k = s.en k) ∧ (∀ k, k < 12 → gA g 32 k = s.eo k) ∧ (∀ k, k < 4 → gA g 31 k = s.fr k) ∧ (∀ k, k < 4 → gA g 33 k = s.we k) ∧ (∀ k, k < 4 → gA g 34 k = s.bu k) ∧ (gI g 958 0 = s.ag) ∧ (gI g 968 0 = s.lo) ∧ (∀ d : Nat, d < 12 → gA g 35 d = more d)
theorem MW.be {g : GS} {more : Nat → Int} {s : Wt} (h_ : MW g more s) : ∀ k, k < 12 → gA g 29 k = s.be k := h_.1
theorem MW.en {g : GS} {more : Nat → Int} {s : Wt} (h_ : MW g more s) : ∀ k, k < 12 → gA g 30 k = s.en k := h_.2.1
theorem MW.eo {g : GS} {more : Nat → Int} {s : Wt} (h_ : MW g more s) : ∀ k, k < 12 → gA g 32 k = s.eo k := h_.2.2.1
theorem MW.fr {g : GS} {more : Nat → Int} {s : Wt} (h_ : MW g more s) : ∀ k, k < 4 → gA g 31 k = s.fr k := h_.2.2.2.1
theorem MW.we {g : GS} {more : Nat → Int} {s : Wt} (h_ : MW g more s) : ∀ k, k < 4 → gA g 33 k = s.we k := h_.2.2.2.2.1
theorem MW.bu {g : GS} {more : Nat → Int} {s : Wt} (h_ : MW g more s) : ∀ k, k < 4 → gA g 34 k = s.bu k := h_.2.2.2.2.2.1
theorem MW.ag {g : GS} {more : Nat → Int} {s : Wt} (h_ : MW g more s) : gI g 958 0 = s.ag := h_.2.2.2.2.2.2.1
theorem MW.lo {g : GS} {more : Nat → Int} {s : Wt} (h_ : MW g more s) : gI g 968 0 = s.lo := h_.2.2.2.2.2.2.2.1
theorem MW.mo {g : GS} {more : Nat → Int} {s : Wt} (h_ : MW g more s) : ∀ d : Nat, d < 12 → gA g 35 d = more d := h_.2.2.2.2.2.2.2.2
theorem MW.mk {g : GS} {more : Nat → Int} {s : Wt} (be_ : ∀ k, k < 12 → gA g 29 k = s.be k) (en_ : ∀ k, k < 12 → gA g 30 k = s.en k) (eo_ : ∀ k, k < 12 → gA g 32 k = s.eo k) (fr_ : ∀ k, k < 4 → gA g 31 k = s.fr k) (we_ : ∀ k, k < 4 → gA g 33 k = s.we k) (bu_ : ∀ k, k < 4 → gA g 34 k = s.bu k) (ag_ : gI g 958 0 = s.ag) (lo_ : gI g 968 0 = s.lo) (mo_ : ∀ d : Nat, d < 12 → gA g 35 d = more d) : MW g more s := ⟨be_, en_, eo_, fr_, we_, bu_, ag_, lo_, mo_⟩
def WFr (o : Nat) (g g' : GS) : Prop := (∀ f q, f < 308 ∨ 406 ≤ f → gI g' f q = gI g f q) ∧ (∀ f q, q ≠ o → q ≠ o + 7 → gI g' f q = gI g f q) ∧ ∀ q k, q ≤ o ∨ o + 7 ≤ q → gA g' q k = gA g q k
theorem WFr.trans {g1 g2 : GS} (h1 : WFr o g g1) (h2 : WFr o g1 g2) : WFr o g g2 := ⟨fun f q h => (h2.1 f q h).trans (h1.1 f q h), fun f q h h' => (h2.2.1 f q h h').trans (h1.2.1 f q h h'), fun q k h => (h2.2.2 q k h).trans (h1.2.2 q k h)⟩
theorem WFr.xr {g' : GS} (h : WFr o g g') (hx : XRd r g rd) (ho : o + 8 ≤ r ∨ r + 18 ≤ o) : XRd r g' rd := hx.mono (fun f h1 h2 => h.1 f r (by omega)) fun q k h1 h2 => h.2.2 q k (by omega)
theorem WFr.xl {g' : GS} (h : WFr o g g') (hx : XLw K z g lw) : XLw K z g' lw := hx.mono fun f q _ hf => h.1 f q (by omega)
theorem lineB (ok : RdOK rd) (hlw : lwOK lw) (hM0 : 0 ≤ M) (hmo : ∀ d, d < 12 → 0 ≤ more d ∧ more d ≤ 100) {d w k : Nat} (hd : d < rd.D) (hb : WtB M s) : WtB (M + 300) (comesS rd lw more drawn k d w s) := by
  have hD := ok.D
  have hP := ok.P
  unfold comesS
  split
  · have h1 := begS_bd ok hM0 hb.eo hb.fr (w := w) hd
    have h2 := hmo d (by omega)
    have h3 := hlw (rd.mi d) (rd.ha d) (strS rd w) (if rd.ou d = 1 ∧ rainAt rd (begS rd s.eo s.fr d w).toNat = true then 1 else 0) (begS rd s.eo s.fr d w).toNat (rd.ou d)
    have h4 : 1 ≤ nS rd lw more drawn d w s (begS rd s.eo s.fr d w) ∧ nS rd lw more drawn d w s (begS rd s.eo s.fr d w) ≤ 298 := by
      unfold nS lastS
      split <;> omega
    have h5 : 0 ≤ rnS rd d (begS rd s.eo s.fr d w) (nS rd lw more drawn d w s (begS rd s.eo s.fr d w)) ∧ rnS rd d (begS rd s.eo s.fr d w) (nS rd lw more drawn d w s (begS rd s.eo s.fr d w)) ≤ 298 := by
      unfold rnS
      split
      · have := rainS_bd (rd := rd) (begS rd s.eo s.fr d w).toNat (nS rd lw more drawn d w s (begS rd s.eo s.fr d w)).toNat
        omega
      · omega
    have h6 := hb.sp
    have h7 := hb.ag
    unfold lineS
    generalize nS rd lw more drawn d w s (begS rd s.eo s.fr d w) = n at h4 h5 ⊢
    generalize begS rd s.eo s.fr d w = b at h1 h5 ⊢
    generalize rnS rd d b n = rn at h5 ⊢
    refine WtB.mk (fun i hi => ?_) (fun i hi => ?_) (fun i hi => ?_) (fun i hi => ?_) ?_ ?_
    · have := hb.eo i hi
      show -1 ≤ (if i = d then b + n else s.eo i) ∧ (if i = d then b + n else s.eo i) ≤ M + 300
      split <;> omega
    · have := hb.fr i hi
      show 0 ≤ (if i < rd.P ∧ w.testBit i = true then b + n else s.fr i) ∧ (if i < rd.P ∧ w.testBit i = true then b + n else s.fr i) ≤ M + 300
      split <;> omega
    · have := hb.we i hi
      show 0 ≤ (if i < rd.P ∧ w.testBit i = true then s.we i + rn else s.we i) ∧ (if i < rd.P ∧ w.testBit i = true then s.we i + rn else s.we i) ≤ M + 300
      split <;> omega
    · have := hb.bu i hi
      show 0 ≤ (if i < rd.P ∧ w.testBit i = true then s.bu i + n else s.bu i) ∧ (if i < rd.P ∧ w.testBit i = true then s.bu i + n else s.bu i) ≤ M + 300
      split <;> omega
    · show 0 ≤ max s.sp (b + n) ∧ max s.sp (b + n) ≤ M + 300
      omega
    · show 0 ≤ (if againS rd drawn s = true then s.ag + 1 else s.ag) ∧ (if againS rd drawn s = true then s.ag + 1 else s.ag) ≤ M + 300
      split <;> omega
  · have h6 := hb.sp
    have h7 := hb.ag
    refine WtB.mk (fun i hi => ?_) (fun i hi => ?_) (fun i hi => ?_) (fun i hi => ?_) ?_ ?_
    · have : -1 ≤ s.eo i ∧ s.eo i ≤ M := hb.eo i hi
      show -1 ≤ s.eo i ∧ s.eo i ≤ M + 300
      omega
    · have : 0 ≤ s.fr i ∧ s.fr i ≤ M := hb.fr i hi
      show 0 ≤ s.fr i ∧ s.fr i ≤ M + 300
      omega
    · have : 0 ≤ s.we i ∧ s.we i ≤ M := hb.we i hi
      show 0 ≤ s.we i ∧ s.we i ≤ M + 300
      omega
    · have : 0 ≤ s.bu i ∧ s.bu i ≤ M := hb.bu i hi
      show 0 ≤ s.bu i ∧ s.bu i ≤ M + 300
      omega
    · show 0 ≤ s.sp ∧ s.sp ≤ M + 300
      omega
    · show 0 ≤ s.ag ∧ s.ag ≤ M + 300
      omega
/-- who works, gets wet -/
def wkS (rd : Rd) (w i : Nat) (f : Nat → Int) (v : Int → Int) : Nat → Int := fun p => if p < i ∧ w.testBit p = true then v (f p) else f p
theorem x_works_eq (hN : 100000000000000000000 ≤ N) (ok : RdOK rd) (h : XRd r g rd) (hr : gI g 308 o = r) (hK : K r = 9) (ho : o + 8 ≤ r ∨ r + 18 ≤ o) {k w : Nat} (hk : k < 12) (hw : w < 16) {e : Int} (he : gA g (o + 2) k = e) (n rn : Int) : ∃ a, loopN (fun s => xWatch_comes_b277 N K o k w n rn s.1 s.2) N (g, 0) = some a ∧ a.1 = 1 ∧ (∀ f q, gI a.2 f q = gI g f q) ∧ (∀ q j, q ≠ o + 4 → q ≠ o + 5 → q ≠ o + 6 → gA a.2 q j = gA g q j) ∧ ∀ p, gA a.2 (o + 4) p = wkS rd w rd.P (gA g (o + 4)) (fun _ => e) p ∧ gA a.2 (o + 5) p = wkS rd w rd.P (gA g (o + 5)) (fun v => v + rn) p ∧ gA a.2 (o + 6) p = wkS rd w rd.P (gA g (o + 6)) (fun v => v + n) p := by
  have hP := ok.P
  refine loop_ex (fun i s => s.2 = (i : Int) ∧ (∀ f q, gI s.1 f q = gI g f q) ∧ (∀ q j, q ≠ o + 4 → q ≠ o + 5 → q ≠ o + 6 → gA s.1 q j = gA g q j) ∧ ∀ p, gA s.1 (o + 4) p = wkS rd w i (gA g (o + 4)) (fun _ => e) p ∧ gA s.1 (o + 5) p = wkS rd w i (gA g (o + 5)) (fun v => v + rn) p ∧ gA s.1 (o + 6) p = wkS rd w i (gA g (o + 6)) (fun v => v + n) p) rd.P _ (fun i s hi hs => ?_) (fun s hs => ?_) ⟨rfl, fun _ _ => rfl, fun _ _ _ _ _ => rfl, fun p => ⟨by simp [wkS], by simp [wkS], by simp [wkS]⟩⟩ (by omega)
  · obtain ⟨g1, j⟩ := s
    obtain ⟨rfl, h1, h2, h3⟩ := hs
    dsimp only at h1 h2 h3
    have hP1 : gI g1 813 r = rd.P := by rw [h1, h.P]
    have hr1 : gI g1 308 o = r := by rw [h1, hr]
    cases e2 : w.testBit i
    · refine ⟨(g1, ((i + 1 : Nat) : Int)), by simp (disch := omega) [w32_of, bit_at, rdA_nat, wrA_nat, obind_some, outR_eq, xWatch_comes_b277, rdR_of hr1 hK, hP1, e2, show ¬((rd.P : Int) ≤ i) by omega], rfl, h1, h2, fun p => ?_⟩
      have hh : ∀ (f : Nat → Int) (v : Int → Int), wkS rd w (i + 1) f v p = wkS rd w i f v p := by
        intro f v
        unfold wkS
        by_cases e7 : p = i
        · subst e7; simp [e2]
        · simp only [show p < i + 1 ↔ p < i by omega]
      rw [hh, hh, hh]
      exact h3 p
    · refine ⟨(sA (sA (sA g1 (o + 4) i e) (o + 6) i (gA g (o + 6) i + n)) (o + 5) i (gA g (o + 5) i + rn), ((i + 1 : Nat) : Int)), ?_, rfl, h1, fun q j q1 q2 q3 => ?_, fun p => ?_⟩
      · have e4 : gA g1 (o + 2) k = e := by rw [h2 _ _ (by omega) (by omega) (by omega), he]
        have e5 : gA g1 (o + 5) i = gA g (o + 5) i := by rw [(h3 i).2.1]; simp [wkS]
        have e6 : gA g1 (o + 6) i = gA g (o + 6) i := by rw [(h3 i).2.2]; simp [wkS]
        simp (disch := omega) [w32_of, bit_at, rdA_nat, wrA_nat, obind_some, outR_eq, xWatch_comes_b277, rdR_of hr1 hK, hP1, e2, show ¬((rd.P : Int) ≤ i) by omega, e4, xWatch_works, gA_sA, e5, e6]
      · simp only [gA_sA]
        rw [if_neg (by omega), if_neg (by omega), if_neg (by omega)]
        exact h2 q j q1 q2 q3
      · have h4 := h3 p
        by_cases e7 : p = i
        · subst e7
          simp [gA_sA, wkS, e2]
        · have e8 : ∀ (f : Nat → Int) (v : Int → Int), wkS rd w (i + 1) f v p = wkS rd w i f v p := fun f v => by unfold wkS; simp only [show p < i + 1 ↔ p < i by omega]
          rw [e8, e8, e8]
          simp only [gA_sA]
          rw [if_neg (by omega), if_neg (by omega), if_neg (by omega), if_neg (by omega), if_neg (by omega), if_neg (by omega), if_neg (by omega), if_neg (by omega), if_neg (by omega)]
          exact h4
  · obtain ⟨g1, j⟩ := s
    obtain ⟨rfl, h1, h2, h3⟩ := hs
    dsimp only at h1 h2 h3
    have hP1 : gI g1 813 r = rd.P := by rw [h1, h.P]
    have hr1 : gI g1 308 o = r := by rw [h1, hr]
    exact ⟨(1, g1), by simp (disch := omega) [w32_of, bit_at, rdA_nat, wrA_nat, obind_some, outR_eq, xWatch_comes_b277, rdR_of hr1 hK, hP1], rfl, h1, h2, h3⟩
