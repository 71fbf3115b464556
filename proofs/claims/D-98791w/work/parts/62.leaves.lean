set_option maxRecDepth 100000
/-! PLAIN 3: rain, strength, what is done -/
variable {N : Nat} {K : Nat → Nat} {r : Nat} {g gm : GS} {rd : Rd}
def rainAt (rd : Rd) (t : Nat) : Bool := decide (t < 241) && rd.ra t
theorem xRoad_isRain_eq (hN : 100000000000000000000 ≤ N) (h : XRd r g rd) {t : Nat} (ht : t ≤ 240) : xRoad_isRain N r g t = some (if rd.ra t then 1 else 0) := by
  obtain ⟨n, hn, h1, h2, h3⟩ := h.nr
  have h4 := h3 t ht
  unfold xRoad_isRain
  refine loop_val (fun s => ∃ i : Nat, i ≤ n ∧ s = (i : Int) ∧ ∀ k, k < i → ¬(gA g (r + 7) k ≤ t ∧ (t : Int) ≤ gA g (r + 8) k)) (fun s => n - s.toNat) (fun s hs => ?_) ⟨0, by omega, rfl, fun k hk => by omega⟩ (by omega)
  obtain ⟨i, hi, rfl, hk⟩ := hs
  by_cases e : i = n
  · right
    subst e
    have e5 : rd.ra t = false := by
      cases e6 : rd.ra t
      · rfl
      · obtain ⟨k, k1, k2⟩ := h4.mp e6
        exact absurd k2 (hk k k1)
    simp (disch := omega) [w32_of, bit_at, rdA_nat, wrA_nat, obind_some, outR_eq, xRoad_isRain_b2, h1, e5]
  · have hb := h2 i (by omega)
    by_cases c1 : gA g (r + 7) i ≤ t
    · by_cases c2 : (t : Int) ≤ gA g (r + 8) i
      · right
        have e5 := h4.mpr ⟨i, by omega, c1, c2⟩
        simp (disch := omega) [w32_of, bit_at, rdA_nat, wrA_nat, obind_some, outR_eq, xRoad_isRain_b2, h1, e5, show ¬((n : Int) ≤ i) by omega, show ¬((t : Int) < gA g (r + 7) i) by omega, show ¬(gA g (r + 8) i < (t : Int)) by omega]
      · left
        refine ⟨((i + 1 : Nat) : Int), by simp (disch := omega) [w32_of, bit_at, rdA_nat, wrA_nat, obind_some, outR_eq, xRoad_isRain_b2, h1, show ¬((n : Int) ≤ i) by omega, show ¬((t : Int) < gA g (r + 7) i) by omega, show (gA g (r + 8) i < (t : Int)) by omega], ⟨i + 1, by omega, rfl, fun k hk' => ?_⟩, by simp; omega⟩
        by_cases e7 : k = i
        · subst e7; exact fun q => c2 q.2
        · exact hk k (by omega)
    · left
      refine ⟨((i + 1 : Nat) : Int), by simp (disch := omega) [w32_of, bit_at, rdA_nat, wrA_nat, obind_some, outR_eq, xRoad_isRain_b2, h1, show ¬((n : Int) ≤ i) by omega, show ((t : Int) < gA g (r + 7) i) by omega], ⟨i + 1, by omega, rfl, fun k hk' => ?_⟩, by simp; omega⟩
      by_cases e7 : k = i
      · subst e7; exact fun q => c1 q.1
      · exact hk k (by omega)
theorem m_isRain_eq (h : MRd gm rd) {t : Nat} (ht : t < 1000000) : m_isRain gm t = some (if rainAt rd t then 1 else 0) := by
  unfold m_isRain rainAt
  by_cases e : t < 241
  · cases e2 : rd.ra t
    · simp (disch := omega) [w32_of, bit_at, rdA_nat, wrA_nat, obind_some, outR_eq, h.ra t e, show ¬(241 ≤ (t : Int)) by omega, e, e2]
    · simp (disch := omega) [w32_of, bit_at, rdA_nat, wrA_nat, obind_some, outR_eq, h.ra t e, show ¬(241 ≤ (t : Int)) by omega, e, e2]
  · simp (disch := omega) [w32_of, bit_at, rdA_nat, wrA_nat, obind_some, outR_eq, show (241 ≤ (t : Int)) by omega, e]
def rainS (rd : Rd) (b n : Nat) : Int := sumN n fun k => if rainAt rd (b + k) then 1 else 0
theorem sumN_stop {f : Nat → Int} {m : Nat} : ∀ {n : Nat}, m ≤ n → (∀ k, m ≤ k → k < n → f k = 0) → sumN n f = sumN m f
  | 0, h, _ => by have : m = 0 := by omega
                  subst this; rfl
  | n + 1, h, h2 => by
    by_cases e : m = n + 1
    · rw [e]
    · rw [sumN, sumN_stop (n := n) (by omega) (fun k h3 h4 => h2 k h3 (by omega)), h2 n (by omega) (by omega)]
      omega
theorem rainS_bd (b n : Nat) : 0 ≤ rainS rd b n ∧ rainS rd b n ≤ n := by
  have h := sumN_bd (n := n) (b := 1) (f := fun k => if rainAt rd (b + k) then 1 else 0) fun k _ => by split <;> omega
  unfold rainS
  omega
theorem xRoad_rainIn_eq (hN : 100000000000000000000 ≤ N) (h : XRd r g rd) {b n : Nat} (hb : b ≤ 100000) (hn : n ≤ 100000) : xRoad_rainIn N r g b ((b + n : Nat) : Int) = some (rainS rd b n) := by
  have hm : rainS rd b n = rainS rd b (min n (241 - b)) := sumN_stop (by omega) fun k h1 h2 => by
    have : rainAt rd (b + k) = false := by unfold rainAt; rw [decide_eq_false (by omega)]; rfl
    rw [this]; rfl
  rw [hm]
  unfold xRoad_rainIn
  refine loop_up' (fun i => (rainS rd b i, ((b + i : Nat) : Int))) (min n (241 - b)) _ (by simp [rainS, sumN]) (fun i hi => ?_) ?_ (by omega)
  · have hbd := rainS_bd (rd := rd) b i
    have hr : rainAt rd (b + i) = rd.ra (b + i) := by unfold rainAt; rw [decide_eq_true (by omega)]; rfl
    have hx := xRoad_isRain_eq hN h (t := b + i) (by omega)
    have hs : rainS rd b (i + 1) = rainS rd b i + if rd.ra (b + i) then 1 else 0 := by rw [← hr]; rfl
    unfold xRoad_rainIn_b5
    dsimp only
    rw [w32_of (by omega) (by omega), w32_of (by omega) (by omega), w32_of (by omega) (by omega), if_neg (by omega), if_neg (by omega), hx, obind_some, hs]
    cases e : rd.ra (b + i)
    · simp (disch := omega) [w32_of, bit_at, rdA_nat, wrA_nat, obind_some, outR_eq, e]; omega
    · simp (disch := omega) [w32_of, bit_at, rdA_nat, wrA_nat, obind_some, outR_eq, e]; omega
  · unfold xRoad_rainIn_b5
    dsimp only
    by_cases e : n ≤ 241 - b
    · rw [w32_of (by omega) (by omega), w32_of (by omega) (by omega), if_pos (by omega)]; rfl
    · rw [w32_of (by omega) (by omega), w32_of (by omega) (by omega), w32_of (by omega) (by omega), if_neg (by omega), if_pos (by omega)]; rfl
theorem m_rainIn_eq (hN : 100000000000000000000 ≤ N) (h : MRd gm rd) {b n : Nat} (hb : b ≤ 100000) (hn : n ≤ 100000) : m_rainIn N gm b ((b + n : Nat) : Int) = some (rainS rd b n) := by
  unfold m_rainIn
  refine loop_up' (fun i => (rainS rd b i, ((b + i : Nat) : Int))) n _ (by simp [rainS, sumN]) (fun i hi => ?_) ?_ (by omega)
  · have hbd := rainS_bd (rd := rd) b i
    have hx := m_isRain_eq h (t := b + i) (by omega)
    have hs : rainS rd b (i + 1) = rainS rd b i + if rainAt rd (b + i) then 1 else 0 := rfl
    unfold m_rainIn_b5
    dsimp only
    rw [w32_of (by omega) (by omega), w32_of (by omega) (by omega), if_neg (by omega), hx, obind_some, hs]
    cases e : rainAt rd (b + i)
    · simp (disch := omega) [w32_of, bit_at, rdA_nat, wrA_nat, obind_some, outR_eq, e, m_rainIn_j26]; omega
    · simp (disch := omega) [w32_of, bit_at, rdA_nat, wrA_nat, obind_some, outR_eq, e, m_rainIn_j26]; omega
  · unfold m_rainIn_b5
    dsimp only
    rw [w32_of (by omega) (by omega), if_pos (by omega)]; rfl
theorem m_strengthOf_eq (hN : 100000000000000000000 ≤ N) (ok : RdOK rd) (h : MRd gm rd) {w : Nat} (hw : w < 16) : m_strengthOf N gm w = some (strS rd w) := by
  have hP := ok.P
  unfold m_strengthOf
  refine loop_up' (fun i => (sumN i (fun p => if w.testBit p then rd.st p else 0), (i : Int))) rd.P _ rfl (fun i hi => ?_) ?_ (by omega)
  · have hb := strS_bd ok w i (by omega)
    have := ok.st i hi
    by_cases e : w.testBit i
    · simp (disch := omega) [w32_of, bit_at, rdA_nat, wrA_nat, obind_some, outR_eq, m_strengthOf_b4, h.P, e, h.st i hi, sumN]
      omega
    · simp (disch := omega) [w32_of, bit_at, rdA_nat, wrA_nat, obind_some, outR_eq, m_strengthOf_b4, h.P, e, h.st i hi, sumN]
      omega
  · simp (disch := omega) [w32_of, bit_at, rdA_nat, wrA_nat, obind_some, outR_eq, m_strengthOf_b4, h.P, strS]
def popS (w : Nat) : Int := sumN 12 fun p => if w.testBit p then 1 else 0
theorem m_onesOf_eq (hN : 100000000000000000000 ≤ N) {w : Nat} (hw : w < 1000000) : m_onesOf N gm w = some (popS w) := by
  unfold m_onesOf
  refine loop_up' (fun i => (sumN i (fun p => if w.testBit p then 1 else 0), (i : Int))) 12 _ rfl (fun i hi => ?_) ?_ (by omega)
  · have hb := sumN_bd (n := i) (b := 1) (f := fun p => if w.testBit p then 1 else 0) fun k _ => by split <;> omega
    by_cases e : w.testBit i
    · simp (disch := omega) [w32_of, bit_at, rdA_nat, wrA_nat, obind_some, outR_eq, m_onesOf_b4, e, sumN]
      omega
    · simp (disch := omega) [w32_of, bit_at, rdA_nat, wrA_nat, obind_some, outR_eq, m_onesOf_b4, e, sumN]
      omega
  · simp (disch := omega) [w32_of, bit_at, rdA_nat, wrA_nat, obind_some, outR_eq, m_onesOf_b4, popS]
theorem popS_bd (w : Nat) : 0 ≤ popS w ∧ popS w ≤ 12 := by
  have hb := sumN_bd (n := 12) (b := 1) (f := fun p => if w.testBit p then 1 else 0) fun k _ => by split <;> omega
  unfold popS
  omega
theorem i_bits_eq {w : Nat} (hw : w < 64) : i_bits (w : Int) = popS w := bits_ones w hw
def doneS (rd : Rd) (d w : Nat) : Bool := decide (popS w = rd.ha d) && decide (rd.sg d ≤ strS rd w)
theorem xRoad_isDone_eq (hN : 100000000000000000000 ≤ N) (ok : RdOK rd) (h : XRd r g rd) {d w : Nat} (hd : d < rd.D) (hw : w < 16) : xRoad_isDone N r g d w = some (if doneS rd d w then 1 else 0) := by
  have h1 := ok.ha d hd
  have h2 := ok.sg d hd
  have h3 := strS_bd ok w rd.P (Nat.le_refl _)
  have h4 := popS_bd w
  have h5 := ok.D
  have h3' : 0 ≤ strS rd w ∧ strS rd w ≤ 36 := h3
  unfold xRoad_isDone doneS
  rw [rdA_nat (by omega) (by omega), obind_some, i_bits_eq (by omega), h.ha d hd, w32_of (by omega) (by omega), w32_of (by omega) (by omega)]
  by_cases e1 : popS w = rd.ha d
  · rw [if_neg (by omega), xRoad_strongOf_eq hN ok h hw, obind_some, rdA_nat (by omega) (by omega), obind_some, h.sg d hd, w32_of (by omega) (by omega), w32_of (by omega) (by omega)]
    by_cases e2 : rd.sg d ≤ strS rd w
    · rw [if_neg (by omega)]; simp [e1, e2]
    · rw [if_pos (by omega)]; simp [e2]
  · rw [if_pos e1]; simp [e1]
theorem m_mayDo_eq (hN : 100000000000000000000 ≤ N) (ok : RdOK rd) (h : MRd gm rd) {d w : Nat} (hd : d < rd.D) (hw : w < 16) : m_mayDo N gm d w = some (if doneS rd d w then 1 else 0) := by
  have h1 := ok.ha d hd
  have h2 := ok.sg d hd
  have h3 := strS_bd ok w rd.P (Nat.le_refl _)
  have h4 := popS_bd w
  have h5 := ok.D
  have h3' : 0 ≤ strS rd w ∧ strS rd w ≤ 36 := h3
  unfold m_mayDo doneS
  rw [m_onesOf_eq hN (by omega), obind_some, rdA_at (5 * d + 2) (by omega) (by omega) (by omega), obind_some, h.ha d hd, w32_of (by omega) (by omega), w32_of (by omega) (by omega)]
  by_cases e1 : popS w = rd.ha d
  · rw [if_neg (by omega), m_strengthOf_eq hN ok h hw, obind_some, rdA_at (5 * d + 3) (by omega) (by omega) (by omega), obind_some, h.sg d hd, w32_of (by omega) (by omega), w32_of (by omega) (by omega)]
    by_cases e2 : rd.sg d ≤ strS rd w
    · rw [if_neg (by omega)]; simp [e1, e2]
    · rw [if_pos (by omega)]; simp [e2]
  · rw [if_pos e1]; simp [e1]
