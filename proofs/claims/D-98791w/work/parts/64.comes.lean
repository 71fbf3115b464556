set_option maxRecDepth 100000
/-! PLAIN 5: a watch: one line, on both sides -/
variable {N : Nat} {K : Nat → Nat} {r o : Nat} {g gm : GS} {rd : Rd} {lw : Int → Int → Int → Int → Int → Int → Int}
def Wt : Type := (Nat → Int) × (Nat → Int) × (Nat → Int) × (Nat → Int) × (Nat → Int) × (Nat → Int) × (Int) × (Int) × (Int)
def Wt.be (h_ : Wt) : Nat → Int := h_.1
def Wt.en (h_ : Wt) : Nat → Int := h_.2.1
def Wt.eo (h_ : Wt) : Nat → Int := h_.2.2.1
def Wt.fr (h_ : Wt) : Nat → Int := h_.2.2.2.1
def Wt.we (h_ : Wt) : Nat → Int := h_.2.2.2.2.1
def Wt.bu (h_ : Wt) : Nat → Int := h_.2.2.2.2.2.1
def Wt.sp (h_ : Wt) : Int := h_.2.2.2.2.2.2.1
def Wt.ag (h_ : Wt) : Int := h_.2.2.2.2.2.2.2.1
def Wt.lo (h_ : Wt) : Int := h_.2.2.2.2.2.2.2.2
def Wt.mk (be_ : Nat → Int) (en_ : Nat → Int) (eo_ : Nat → Int) (fr_ : Nat → Int) (we_ : Nat → Int) (bu_ : Nat → Int) (sp_ : Int) (ag_ : Int) (lo_ : Int) : Wt := (be_, en_, eo_, fr_, we_, bu_, sp_, ag_, lo_)
def setN (f : Nat → Int) (k : Nat) (v : Int) : Nat → Int := fun i => if i = k then v else f i
def readyS (rd : Rd) (e : Nat → Int) (d : Nat) : Prop := ∀ i, i < d → (rd.ne d).testBit i = true → e i ≠ -1
def mxN : Nat → (Nat → Int) → Int
  | 0, _ => 0
  | n + 1, f => max (mxN n f) (f n)
theorem mxN_bd {f : Nat → Int} {M : Int} (hM : 0 ≤ M) : ∀ {n : Nat}, (∀ k, k < n → f k ≤ M) → 0 ≤ mxN n f ∧ mxN n f ≤ M
  | 0, _ => ⟨Int.le_refl _, hM⟩
  | n + 1, h => by
    have h1 := mxN_bd hM (n := n) fun k hk => h k (by omega)
    have h2 := h n (by omega)
    rw [mxN]
    omega
theorem mxN_stop {f : Nat → Int} {m : Nat} : ∀ {n : Nat}, m ≤ n → (∀ k, m ≤ k → k < n → f k ≤ 0) → mxN n f = mxN m f
  | 0, h, _ => by have : m = 0 := by omega
                  subst this; rfl
  | n + 1, h, h2 => by
    by_cases e : m = n + 1
    · rw [e]
    · have h3 := mxN_stop (n := n) (m := m) (f := f) (by omega) fun k h3 h4 => h2 k h3 (by omega)
      have h4 := h2 n (by omega) (by omega)
      have h5 : ∀ m, 0 ≤ mxN m f := by
        intro m
        induction m with
        | zero => exact Int.le_refl _
        | succ m ih => rw [mxN]; omega
      have := h5 m
      rw [mxN, h3]
      omega
def frS (rd : Rd) (f : Nat → Int) (w : Nat) : Int := mxN rd.P fun p => if w.testBit p then f p else 0
def eoS (rd : Rd) (e : Nat → Int) (d : Nat) : Int := mxN d fun i => if (rd.ne d).testBit i then e i else 0
def begS (rd : Rd) (e f : Nat → Int) (d w : Nat) : Int := max (eoS rd e d) (frS rd f w)
theorem tb_false {n k j : Nat} (h : n < 2 ^ k) (hj : k ≤ j) : n.testBit j = false := Nat.testBit_lt_two_pow (Nat.lt_of_lt_of_le h (Nat.pow_le_pow_right (by omega) hj))
theorem ne_lt (ok : RdOK rd) {d : Nat} (hd : d < rd.D) : rd.ne d < 4096 := by
  have h1 := ok.ne d hd
  have h2 := ok.D
  have : 2 ^ d ≤ 2 ^ 12 := Nat.pow_le_pow_right (by omega) (by omega)
  omega
/-- what ends has bounds -/
def EoB (M : Int) (e : Nat → Int) : Prop := ∀ i, i < 12 → -1 ≤ e i ∧ e i ≤ M
def FrB (M : Int) (f : Nat → Int) : Prop := ∀ i, i < 4 → 0 ≤ f i ∧ f i ≤ M
theorem begS_bd {e f : Nat → Int} {M : Int} (ok : RdOK rd) (hM : 0 ≤ M) (he : EoB M e) (hf : FrB M f) {d w : Nat} (hd : d < rd.D) : 0 ≤ begS rd e f d w ∧ begS rd e f d w ≤ M := by
  have hP := ok.P
  have hD := ok.D
  have h1 := mxN_bd hM (n := d) (f := fun i => if (rd.ne d).testBit i then e i else 0) fun k hk => by
    have := he k (by omega)
    split <;> omega
  have h2 := mxN_bd hM (n := rd.P) (f := fun p => if w.testBit p then f p else 0) fun k hk => by
    have := hf k (by omega)
    split <;> omega
  unfold begS eoS frS
  omega
theorem xWatch_isReady_eq (hN : 100000000000000000000 ≤ N) (ok : RdOK rd) (h : XRd r g rd) (hr : gI g 308 o = r) (hK : K r = 9) {e : Nat → Int} (he : ∀ i, i < 12 → gA g (o + 3) i = e i) {M : Int} (hM : M ≤ 100000) (hb : EoB M e) {d : Nat} (hd : d < rd.D) {b : Bool} (hbb : b = true ↔ readyS rd e d) : xWatch_isReady N K o g d = some (if b then 1 else 0) := by
  have hD := ok.D
  have hn := ne_lt ok hd
  unfold xWatch_isReady
  refine loop_val (fun s => ∃ i : Nat, i ≤ d ∧ s = (i : Int) ∧ ∀ k, k < i → (rd.ne d).testBit k = true → e k ≠ -1) (fun s => d - s.toNat) (fun s hs => ?_) ⟨0, by omega, rfl, fun k hk => by omega⟩ (by omega)
  obtain ⟨i, hi, rfl, hk⟩ := hs
  by_cases e1 : i = d
  · right
    subst e1
    have e5 : b = true := hbb.mpr hk
    simp (disch := omega) [w32_of, bit_at, rdA_nat, wrA_nat, obind_some, outR_eq, xWatch_isReady_b2, e5]
  · have hbi := hb i (by omega)
    cases e2 : (rd.ne d).testBit i
    · left
      refine ⟨((i + 1 : Nat) : Int), by simp (disch := omega) [w32_of, bit_at, rdA_nat, wrA_nat, obind_some, outR_eq, xWatch_isReady_b2, rdR_of hr hK, h.ne d hd, e2, show ¬((d : Int) ≤ i) by omega], ⟨i + 1, by omega, rfl, fun k hk' q => ?_⟩, by simp; omega⟩
      by_cases e7 : k = i
      · subst e7; rw [e2] at q; cases q
      · exact hk k (by omega) q
    · by_cases e3 : e i = -1
      · right
        have e5 : b = false := by
          cases b
          · rfl
          · exact absurd e3 (hbb.mp rfl i (by omega) e2)
        simp (disch := omega) [w32_of, bit_at, rdA_nat, wrA_nat, obind_some, outR_eq, xWatch_isReady_b2, rdR_of hr hK, h.ne d hd, e2, show ¬((d : Int) ≤ i) by omega, he i (by omega), e3, e5]
      · left
        refine ⟨((i + 1 : Nat) : Int), by simp (disch := omega) [w32_of, bit_at, rdA_nat, wrA_nat, obind_some, outR_eq, xWatch_isReady_b2, rdR_of hr hK, h.ne d hd, e2, show ¬((d : Int) ≤ i) by omega, he i (by omega), e3], ⟨i + 1, by omega, rfl, fun k hk' q => ?_⟩, by simp; omega⟩
        by_cases e7 : k = i
        · subst e7; exact e3
        · exact hk k (by omega) q
theorem imax_of {a b : Int} (h1 : -2147483648 ≤ a) (h2 : a ≤ 2147483647) (h3 : -2147483648 ≤ b) (h4 : b ≤ 2147483647) : imax a b = max a b := by
  unfold imax
  rw [w32_of h1 h2, w32_of h3 h4]
  split <;> omega
theorem imin_of {a b : Int} (h1 : -2147483648 ≤ a) (h2 : a ≤ 2147483647) (h3 : -2147483648 ≤ b) (h4 : b ≤ 2147483647) : imin a b = min a b := by
  unfold imin
  rw [w32_of h1 h2, w32_of h3 h4]
  split <;> omega
theorem iabs_of {a : Int} (h1 : -2147483648 ≤ a) (h2 : a ≤ 2147483647) : iabs a = if 0 ≤ a then a else -a := by
  unfold iabs
  rw [w32_of h1 h2]
theorem xc_b42_eq (hN : 100000000000000000000 ≤ N) (ok : RdOK rd) (h : XRd r g rd) (hr : gI g 308 o = r) (hK : K r = 9) {e : Nat → Int} (he : ∀ i, i < 12 → gA g (o + 3) i = e i) {M : Int} (hM0 : 0 ≤ M) (hM : M ≤ 100000) (hb : EoB M e) {d : Nat} (hd : d < rd.D) (l1 l3 : Int) : loopN (fun s => xWatch_comes_b42 N K o g l1 d l3 s.1 s.2) N (0, 0) = some (eoS rd e d) := by
  have hD := ok.D
  have hn := ne_lt ok hd
  have hbd : ∀ i, i ≤ d → 0 ≤ mxN i (fun i => if (rd.ne d).testBit i then e i else 0) ∧ mxN i (fun i => if (rd.ne d).testBit i then e i else 0) ≤ M := fun i hi => mxN_bd hM0 fun k hk => by
    have := hb k (by omega)
    split <;> omega
  refine loop_up' (fun i => (mxN i (fun i => if (rd.ne d).testBit i then e i else 0), (i : Int))) d _ rfl (fun i hi => ?_) ?_ (by omega)
  · have h1 := hbd i (by omega)
    have h2 := hb i (by omega)
    cases e2 : (rd.ne d).testBit i
    · simp (disch := omega) [w32_of, bit_at, rdA_nat, wrA_nat, obind_some, outR_eq, xWatch_comes_b42, rdR_of hr hK, h.ne d hd, e2, show ¬((d : Int) ≤ i) by omega, mxN]
      omega
    · simp (disch := omega) [w32_of, bit_at, rdA_nat, wrA_nat, obind_some, outR_eq, xWatch_comes_b42, rdR_of hr hK, h.ne d hd, e2, show ¬((d : Int) ≤ i) by omega, mxN, he i (by omega), imax_of]
  · simp (disch := omega) [w32_of, bit_at, rdA_nat, wrA_nat, obind_some, outR_eq, xWatch_comes_b42, eoS]
theorem xc_b89_eq (hN : 100000000000000000000 ≤ N) (ok : RdOK rd) (h : XRd r g rd) (hr : gI g 308 o = r) (hK : K r = 9) {f : Nat → Int} (hf : ∀ i, i < 4 → gA g (o + 4) i = f i) {M : Int} (hM0 : 0 ≤ M) (hM : M ≤ 100000) (hb : FrB M f) {w : Nat} (hw : w < 16) {a : Int} (ha : 0 ≤ a ∧ a ≤ M) (l1 l2 : Int) : loopN (fun s => xWatch_comes_b89 N K o g l1 l2 w s.1 s.2) N (a, 0) = some (max a (frS rd f w)) := by
  have hP := ok.P
  have hbd : ∀ i, i ≤ rd.P → 0 ≤ mxN i (fun p => if w.testBit p then f p else 0) ∧ mxN i (fun p => if w.testBit p then f p else 0) ≤ M := fun i hi => mxN_bd hM0 fun k hk => by
    have := hb k (by omega)
    split <;> omega
  refine loop_up' (fun i => (max a (mxN i (fun p => if w.testBit p then f p else 0)), (i : Int))) rd.P _ (by simp [mxN]; omega) (fun i hi => ?_) ?_ (by omega)
  · have h1 := hbd i (by omega)
    have h2 := hb i (by omega)
    cases e2 : w.testBit i
    · simp (disch := omega) [w32_of, bit_at, rdA_nat, wrA_nat, obind_some, outR_eq, xWatch_comes_b89, rdR_of hr hK, h.P, e2, show ¬((rd.P : Int) ≤ i) by omega, mxN]
      omega
    · simp (disch := omega) [w32_of, bit_at, rdA_nat, wrA_nat, obind_some, outR_eq, xWatch_comes_b89, rdR_of hr hK, h.P, e2, show ¬((rd.P : Int) ≤ i) by omega, mxN, hf i (by omega), imax_of]
  · simp (disch := omega) [w32_of, bit_at, rdA_nat, wrA_nat, obind_some, outR_eq, xWatch_comes_b89, frS, rdR_of hr hK, h.P]
theorem m_b5_eq (hN : 100000000000000000000 ≤ N) (ok : RdOK rd) (h : MRd gm rd) {f : Nat → Int} (hf : ∀ i, i < 4 → gA gm 31 i = f i) {M : Int} (hM0 : 0 ≤ M) (hM : M ≤ 100000) (hb : FrB M f) {w : Nat} (hw : w < 16) (l1 : Int) : loopN (fun s => m_beginOf_b5 N gm l1 w s.1 s.2) N (0, 0) = some (frS rd f w) := by
  have hP := ok.P
  have hbd : ∀ i, i ≤ rd.P → 0 ≤ mxN i (fun p => if w.testBit p then f p else 0) ∧ mxN i (fun p => if w.testBit p then f p else 0) ≤ M := fun i hi => mxN_bd hM0 fun k hk => by
    have := hb k (by omega)
    split <;> omega
  refine loop_up' (fun i => (mxN i (fun p => if w.testBit p then f p else 0), (i : Int))) rd.P _ rfl (fun i hi => ?_) ?_ (by omega)
  · have h1 := hbd i (by omega)
    have h2 := hb i (by omega)
    cases e2 : w.testBit i
    · simp (disch := omega) [w32_of, bit_at, rdA_nat, wrA_nat, obind_some, outR_eq, m_beginOf_b5, m_beginOf_j45, m_beginOf_j46, h.P, e2, show ¬((rd.P : Int) ≤ i) by omega, mxN]
      omega
    · by_cases e3 : f i ≤ mxN i (fun p => if w.testBit p then f p else 0)
      · simp (disch := omega) [w32_of, bit_at, rdA_nat, wrA_nat, obind_some, outR_eq, m_beginOf_b5, m_beginOf_j45, m_beginOf_j46, h.P, e2, show ¬((rd.P : Int) ≤ i) by omega, mxN, hf i (by omega), e3]
        omega
      · simp (disch := omega) [w32_of, bit_at, rdA_nat, wrA_nat, obind_some, outR_eq, m_beginOf_b5, m_beginOf_j45, m_beginOf_j46, h.P, e2, show ¬((rd.P : Int) ≤ i) by omega, mxN, hf i (by omega), e3]
        omega
  · simp (disch := omega) [w32_of, bit_at, rdA_nat, wrA_nat, obind_some, outR_eq, m_beginOf_b5, frS, h.P]
theorem m_beginOf_eq (hN : 100000000000000000000 ≤ N) (ok : RdOK rd) (h : MRd gm rd) {e f : Nat → Int} (he : ∀ i, i < 12 → gA gm 32 i = e i) (hf : ∀ i, i < 4 → gA gm 31 i = f i) {M : Int} (hM0 : 0 ≤ M) (hM : M ≤ 100000) (hb : EoB M e) (hb2 : FrB M f) {d w : Nat} (hd : d < rd.D) (hw : w < 16) {b : Bool} (hbb : b = true ↔ readyS rd e d) : m_beginOf N gm d w = some (if b then begS rd e f d w else -1) := by
  have hD := ok.D
  have hn := ne_lt ok hd
  have hP := ok.P
  have hfr : 0 ≤ frS rd f w ∧ frS rd f w ≤ M := mxN_bd hM0 fun k hk => by
    have := hb2 k (by omega)
    split <;> omega
  have hbd : ∀ i, i ≤ rd.D → 0 ≤ mxN i (fun i => if (rd.ne d).testBit i then e i else 0) ∧ mxN i (fun i => if (rd.ne d).testBit i then e i else 0) ≤ M := fun i hi => mxN_bd hM0 fun k hk => by
    have := hb k (by omega)
    split <;> omega
  unfold m_beginOf
  rw [m_b5_eq hN ok h hf hM0 hM hb2 hw, obind_some]
  refine loop_val (fun s => ∃ i : Nat, i ≤ rd.D ∧ s = (max (frS rd f w) (mxN i (fun i => if (rd.ne d).testBit i then e i else 0)), (i : Int)) ∧ ∀ k, k < i → (rd.ne d).testBit k = true → e k ≠ -1) (fun s => rd.D - s.2.toNat) (fun s hs => ?_) ⟨0, by omega, by simp [mxN]; omega, fun k hk => by omega⟩ (by simp; omega)
  obtain ⟨i, hi, rfl, hk⟩ := hs
  have h1 := hbd i hi
  by_cases e1 : i = rd.D
  · right
    subst e1
    have e5 : b = true := hbb.mpr fun k hk' => hk k (by omega)
    have e6 : mxN rd.D (fun i => if (rd.ne d).testBit i then e i else 0) = eoS rd e d := mxN_stop (by omega) fun k h3 h4 => by rw [tb_false (ok.ne d hd) h3]; exact Int.le_refl _
    simp (disch := omega) [w32_of, bit_at, rdA_nat, wrA_nat, obind_some, outR_eq, m_beginOf_b56, h.D, e5, e6, begS]
    omega
  · have hbi := hb i (by omega)
    have hr1 : rdA gm 10 60 (5 * (d : Int) + 4) = some ((rd.ne d : Nat) : Int) := rdA_atv (h.ne d hd) (by omega) (by omega) (by omega)
    cases e2 : (rd.ne d).testBit i
    · left
      refine ⟨_, by simp (disch := omega) [w32_of, bit_at, rdA_nat, wrA_nat, obind_some, outR_eq, m_beginOf_b56, h.D, show ¬((rd.D : Int) ≤ i) by omega, hr1, e2]; rfl, ⟨i + 1, by omega, ?_, fun k hk' q => ?_⟩, by simp; omega⟩
      · simp [mxN, e2]; omega
      · by_cases e7 : k = i
        · subst e7; rw [e2] at q; cases q
        · exact hk k (by omega) q
    · by_cases e3 : e i = -1
      · right
        have e5 : b = false := by
          cases b
          · rfl
          · refine absurd e3 (hbb.mp rfl i ?_ e2)
            apply Nat.lt_of_not_le
            intro q
            rw [tb_false (ok.ne d hd) q] at e2
            cases e2
        simp (disch := omega) [w32_of, bit_at, rdA_nat, wrA_nat, obind_some, outR_eq, m_beginOf_b56, h.D, show ¬((rd.D : Int) ≤ i) by omega, hr1, e2, he i (by omega), e3, e5]
      · left
        by_cases e4 : e i ≤ max (frS rd f w) (mxN i (fun i => if (rd.ne d).testBit i then e i else 0))
        · refine ⟨_, by simp (disch := omega) [w32_of, bit_at, rdA_nat, wrA_nat, obind_some, outR_eq, m_beginOf_b56, h.D, show ¬((rd.D : Int) ≤ i) by omega, hr1, e2, he i (by omega), e3, e4, m_beginOf_j121]; rfl, ⟨i + 1, by omega, ?_, fun k hk' q => ?_⟩, by simp; omega⟩
          · simp [mxN, e2]; omega
          · by_cases e7 : k = i
            · subst e7; exact e3
            · exact hk k (by omega) q
        · refine ⟨_, by simp (disch := omega) [w32_of, bit_at, rdA_nat, wrA_nat, obind_some, outR_eq, m_beginOf_b56, h.D, show ¬((rd.D : Int) ≤ i) by omega, hr1, e2, he i (by omega), e3, e4, m_beginOf_j121]; rfl, ⟨i + 1, by omega, ?_, fun k hk' q => ?_⟩, by simp; omega⟩
          · simp [mxN, e2]; omega
          · by_cases e7 : k = i
            · subst e7; exact e3
            · exact hk k (by omega) q
