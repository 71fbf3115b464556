set_option maxRecDepth 100000
/-! PLAIN 33: miles -/
variable {N : Nat} {K K' : Nat → Nat} {t t' z z' r o : Nat} {g gm g1 gm1 : GS} {a1 a2 a3 a4 a5 a6 v w : Int} {a : Ab} {rd : Rd} {p : Pl}
def nwS (p k : Nat) : Nat := if p + 10 * k < 100 then p + 10 * k else 99
def bhS (fl : Bool) (w : Nat) : Nat := if fl then w - 1 else w
/-- one way to go on: 1000 times the minutes, and the pumpings -/
def wyS (fl : Bool) (c : Nat → Nat) (p k : Nat) : Nat := 4001 * k + 1000 * (2 + (if nwS p k < 30 then (39 - nwS p k) / 10 else 0)) + c (bhS fl (nwS p k))
/-- the best of the first k ways -/
def bwS (fl : Bool) (c : Nat → Nat) (p : Nat) : Nat → Option Nat
  | 0 => none
  | k + 1 => if nwS p k < 5 then bwS fl c p k else match bwS fl c p k with
    | none => some (wyS fl c p k)
    | some b => some (if wyS fl c p k < b then wyS fl c p k else b)
def flS (n each i : Nat) : Bool := decide ((n - i) % each = 0)
def dvS (n each : Nat) : Nat → Nat → Nat
  | 0, _ => 0
  | i + 1, p => (bwS (flS n each i) (dvS n each i) p 11).getD 0
theorem nwS_lt (p k : Nat) (hp : p < 100) : nwS p k < 100 := by unfold nwS; split <;> omega
theorem bwS_some (fl : Bool) (c : Nat → Nat) (p : Nat) : ∃ b, bwS fl c p 11 = some b := by
  have key : ∀ k b, bwS fl c p k = some b → ∃ b', bwS fl c p (k + 1) = some b' := by
    intro k b h
    rw [bwS, h]
    split
    · exact ⟨b, rfl⟩
    · exact ⟨_, rfl⟩
  have h1 : ∃ b, bwS fl c p 2 = some b := by
    rw [bwS, if_neg (by unfold nwS; split <;> omega)]
    cases bwS fl c p 1
    · exact ⟨_, rfl⟩
    · exact ⟨_, rfl⟩
  obtain ⟨b, h⟩ := h1
  obtain ⟨b, h⟩ := key _ _ h
  obtain ⟨b, h⟩ := key _ _ h
  obtain ⟨b, h⟩ := key _ _ h
  obtain ⟨b, h⟩ := key _ _ h
  obtain ⟨b, h⟩ := key _ _ h
  obtain ⟨b, h⟩ := key _ _ h
  obtain ⟨b, h⟩ := key _ _ h
  obtain ⟨b, h⟩ := key _ _ h
  exact key _ _ h
/-- the codes have few pumpings and few minutes -/
def cdB (c : Nat → Nat) (i : Nat) : Prop := ∀ p, p < 100 → c p % 1000 ≤ 10 * i ∧ c p / 1000 ≤ 100 * i
theorem bhS_lt (fl : Bool) {w : Nat} (h : w < 100) : bhS fl w < 100 := by unfold bhS; split <;> omega
theorem wyS_bd {fl : Bool} {c : Nat → Nat} {i p k : Nat} (h : cdB c i) (hi : i ≤ 30) (hp : p < 100) (hk : k ≤ 10) : wyS fl c p k % 1000 ≤ 10 * (i + 1) ∧ wyS fl c p k / 1000 ≤ 100 * (i + 1) ∧ wyS fl c p k % 1000 = k + c (bhS fl (nwS p k)) % 1000 ∧ wyS fl c p k / 1000 = 4 * k + 2 + (if nwS p k < 30 then (39 - nwS p k) / 10 else 0) + c (bhS fl (nwS p k)) / 1000 := by
  have h1 := h _ (bhS_lt fl (nwS_lt p k hp))
  have h2 : (if nwS p k < 30 then (39 - nwS p k) / 10 else 0) ≤ 3 := by split <;> omega
  unfold wyS
  generalize c (bhS fl (nwS p k)) = x at h1 ⊢
  generalize (if nwS p k < 30 then (39 - nwS p k) / 10 else 0) = y at h2 ⊢
  have hx := Nat.div_add_mod x 1000
  generalize x / 1000 = f at h1 hx ⊢
  generalize x % 1000 = u at h1 hx ⊢
  have e : 4001 * k + 1000 * (2 + y) + x = 1000 * (4 * k + 2 + y + f) + (k + u) := by omega
  rw [e]
  have q1 : (1000 * (4 * k + 2 + y + f) + (k + u)) % 1000 = k + u := by
    rw [Nat.mul_add_mod]; exact Nat.mod_eq_of_lt (by omega)
  have q2 : (1000 * (4 * k + 2 + y + f) + (k + u)) / 1000 = 4 * k + 2 + y + f := by
    rw [Nat.mul_add_div (by omega), Nat.div_eq_of_lt (by omega), Nat.add_zero]
  rw [q1, q2]
  omega
theorem bwS_is {fl : Bool} {c : Nat → Nat} {p : Nat} : ∀ k b, bwS fl c p k = some b → ∃ j, j < k ∧ b = wyS fl c p j
  | 0, b, h => by cases h
  | k + 1, b, h => by
    rw [bwS] at h
    split at h
    · obtain ⟨j, h1, h2⟩ := bwS_is k b h
      exact ⟨j, by omega, h2⟩
    · cases hq : bwS fl c p k with
      | none =>
        rw [hq] at h
        cases h
        exact ⟨k, by omega, rfl⟩
      | some b0 =>
        rw [hq] at h
        obtain ⟨j, h1, h2⟩ := bwS_is k b0 hq
        have h := Option.some.inj h
        by_cases e : wyS fl c p k < b0
        · rw [if_pos e] at h; exact ⟨k, by omega, h.symm⟩
        · rw [if_neg e] at h; exact ⟨j, by omega, by rw [← h, h2]⟩
theorem dvS_bd (n each : Nat) : ∀ i, i ≤ 30 → cdB (dvS n each i) i
  | 0, _ => fun p _ => by simp [dvS]
  | i + 1, hi => fun p hp => by
    have ih := dvS_bd n each i (by omega)
    obtain ⟨b, hb⟩ := bwS_some (flS n each i) (dvS n each i) p
    obtain ⟨j, j1, j2⟩ := bwS_is 11 b hb
    have h := wyS_bd (fl := flS n each i) ih (by omega) hp (k := j) (by omega)
    rw [dvS, hb]
    show b % 1000 ≤ _ ∧ b / 1000 ≤ _
    rw [j2]
    omega
theorem m_way (hN : 100000000000000000000 ≤ N) {ml p k each : Nat} {c : Nat → Nat} {i : Nat} (hc : ∀ q, q < 100 → gA gm 40 (100 * (ml + 1) + q) = c q) (hcb : cdB c i) (hi : i < 30) (he : gA gm 18 4 = each) (he2 : 1 ≤ each ∧ each ≤ 9) (hml : ml ≤ 30) (hp : p < 100) (hk : k ≤ 10) {best : Int} (hb : 0 ≤ best ∧ best ≤ 2147483647) : m_findDrive_b50 N gm ml p best k = some (.inl ((if nwS p k < 5 then best else if (wyS (decide (ml % each = 0)) c p k : Int) < best then (wyS (decide (ml % each = 0)) c p k : Int) else best), (k : Int) + 1)) := by
  have hnw := nwS_lt p k hp
  have hwb := wyS_bd (fl := decide (ml % each = 0)) hcb (by omega) hp hk
  have hbh := bhS_lt (decide (ml % each = 0)) hnw
  have hrem := i_rem_nat (a := ml) (b := each) (by omega) (by omega)
  have J0 : ∀ (y : Nat) (w : Nat), w = nwS p k → 5 ≤ w → y = (if w < 30 then (39 - w) / 10 else 0) → m_findDrive_j112 N gm ml p best k w y 2 = some (.inl ((if (wyS (decide (ml % each = 0)) c p k : Int) < best then (wyS (decide (ml % each = 0)) c p k : Int) else best), (k : Int) + 1)) := by
    intro y w hw h5 hy
    have J : ∀ bh : Nat, bh = bhS (decide (ml % each = 0)) w → m_findDrive_j140 N gm ml p best k (2 + (y : Int)) bh = some (.inl ((if (wyS (decide (ml % each = 0)) c p k : Int) < best then (wyS (decide (ml % each = 0)) c p k : Int) else best), (k : Int) + 1)) := by
      intro bh hbe
      have hw2 : ((4001 * (k : Int)) + (1000 * (2 + (y : Int)))) + (c bh : Int) = (wyS (decide (ml % each = 0)) c p k : Int) := by
        unfold wyS
        rw [← hw, ← hbe, ← hy]
        omega
      unfold m_findDrive_j140 m_findDrive_j186
      rw [rdA_atv (k := 100 * (ml + 1) + bh) (hc bh (by rw [hbe, hw]; exact hbh)) (by omega) (by rw [hw] at hbe; omega) (by omega), obind_some, hw2, w32_of (by omega) (by omega), w32_of (by omega) (by omega)]
      by_cases q : (wyS (decide (ml % each = 0)) c p k : Int) < best
      · rw [if_neg (by omega), if_pos q]
      · rw [if_pos (by omega), if_neg q]
    unfold m_findDrive_j112 dvI m_findDrive_j138
    rw [rdA_atv (i := 4) (k := 4) he rfl (by omega) (by omega), obind_some, w32_of (by omega) (by omega), if_neg (by omega), hrem]
    have hlt : ml % each < each := Nat.mod_lt _ (by omega)
    rw [w32_of (by omega) (by omega)]
    by_cases q : ml % each = 0
    · rw [if_neg (by omega), w32_of (by omega) (by omega), if_neg (by omega), show (w : Int) - 1 = ((w - 1 : Nat) : Int) by omega]
      exact J _ (by unfold bhS; rw [decide_eq_true q]; rfl)
    · rw [if_pos (by omega)]
      exact J _ (by unfold bhS; rw [decide_eq_false q]; rfl)
  have J1 : ∀ w : Nat, w = nwS p k → m_findDrive_j81 N gm ml p best k w = some (.inl ((if nwS p k < 5 then best else if (wyS (decide (ml % each = 0)) c p k : Int) < best then (wyS (decide (ml % each = 0)) c p k : Int) else best), (k : Int) + 1)) := by
    intro w hw
    unfold m_findDrive_j81
    rw [w32_of (by omega) (by omega), w32_of (by omega) (by omega)]
    by_cases q : w < 5
    · rw [if_neg (by omega), if_pos (by omega)]
    · rw [if_pos (by omega), if_neg (show ¬ nwS p k < 5 by omega), w32_of (by omega) (by omega)]
      by_cases q2 : w < 30
      · have hd := i_div_nat (a := 39 - w) (b := 10) (by omega) (by omega)
        rw [if_neg (by omega), show (39 : Int) - (w : Int) = ((39 - w : Nat) : Int) by omega, show (10 : Int) = ((10 : Nat) : Int) from rfl, hd]
        exact J0 _ w hw (by omega) (by rw [if_pos q2])
      · rw [if_pos (by omega)]
        exact J0 0 w hw (by omega) (by rw [if_neg q2])
  unfold m_findDrive_b50
  rw [w32_of (by omega) (by omega), w32_of (by omega) (by omega), if_neg (by omega), w32_of (by omega) (by omega), w32_of (by omega) (by omega)]
  by_cases q : p + 10 * k < 100
  · rw [if_neg (by omega), show (p : Int) + 10 * (k : Int) = ((p + 10 * k : Nat) : Int) by omega]
    exact J1 _ (by unfold nwS; rw [if_pos q])
  · rw [if_pos (by omega)]
    exact J1 99 (by unfold nwS; rw [if_neg q])
def enS : Option Nat → Int × Int
  | none => (-1, 0)
  | some b => (((b / 1000 : Nat) : Int), ((b % 1000 : Nat) : Int))
def stS (fl : Bool) (c : Nat → Nat) (p k : Nat) (ob : Option Nat) : Option Nat := match ob with
  | none => some (wyS fl c p k)
  | some b => some (if wyS fl c p k < b then wyS fl c p k else b)
theorem bwS_succ (fl : Bool) (c : Nat → Nat) (p k : Nat) : bwS fl c p (k + 1) = if nwS p k < 5 then bwS fl c p k else stS fl c p k (bwS fl c p k) := rfl
theorem x_way (hN : 100000000000000000000 ≤ N) {p k : Nat} {c : Nat → Nat} {i : Nat} {fl : Bool} (h1 : ∀ q, q < 100 → gA g 79 q = ((c q / 1000 : Nat) : Int)) (h2 : ∀ q, q < 100 → gA g 80 q = ((c q % 1000 : Nat) : Int)) (hcb : cdB c i) (hi : i < 30) (hp : p < 100) (hk : k ≤ 10) {ob : Option Nat} (hob : ∀ b, ob = some b → b % 1000 ≤ 10 * (i + 1) ∧ b / 1000 ≤ 100 * (i + 1)) : xMiles_asks_b8 N g p (if fl then 1 else 0) (enS ob).1 (enS ob).2 k = some (.inl ((enS (if nwS p k < 5 then ob else stS fl c p k ob)).1, (enS (if nwS p k < 5 then ob else stS fl c p k ob)).2, (k : Int) + 1)) := by
  have hnw := nwS_lt p k hp
  have hwb := wyS_bd (fl := fl) hcb (by omega) hp hk
  have hbh := bhS_lt fl hnw
  have hm : imin 99 ((p : Int) + 10 * (k : Int)) = (nwS p k : Int) := by
    rw [imin_of (by omega) (by omega) (by omega) (by omega)]
    unfold nwS
    split <;> omega
  have J : ∀ bh w : Nat, w = nwS p k → bh = bhS fl w → 5 ≤ w → xMiles_asks_j55 N g p (if fl then 1 else 0) (enS ob).1 (enS ob).2 k w bh = some (.inl ((enS (stS fl c p k ob)).1, (enS (stS fl c p k ob)).2, (k : Int) + 1)) := by
    intro bh w hw hb h5
    have hb100 : bh < 100 := by rw [hb, hw]; exact hbh
    have hmx : imax 0 (30 - (w : Int)) = ((30 - w : Nat) : Int) := by
      rw [imax_of (by omega) (by omega) (by omega) (by omega)]; omega
    have hd := i_div_nat (a := 30 - w + 9) (b := 10) (by omega) (by omega)
    have hall : ((4 * (k : Int)) + 2) + (i_div ((imax 0 (30 - (w : Int))) + 9) 10) + ((c bh / 1000 : Nat) : Int) = ((wyS fl c p k / 1000 : Nat) : Int) := by
      rw [hmx, show ((30 - w : Nat) : Int) + 9 = ((30 - w + 9 : Nat) : Int) by omega, show (10 : Int) = ((10 : Nat) : Int) from rfl, hd, hwb.2.2.2, ← hw, ← hb]
      have : (30 - w + 9) / 10 = (if w < 30 then (39 - w) / 10 else 0) := by
        split
        · congr 1; omega
        · omega
      rw [this]
      generalize (if w < 30 then (39 - w) / 10 else 0) = y
      generalize c bh / 1000 = x
      omega
    have htm : (k : Int) + ((c bh % 1000 : Nat) : Int) = ((wyS fl c p k % 1000 : Nat) : Int) := by
      rw [hwb.2.2.1, ← hw, ← hb]
      generalize c bh % 1000 = x
      omega
    unfold xMiles_asks_j55 xMiles_asks_j128
    rw [rdA_val (h1 bh hb100) (by omega) (by omega), obind_some, rdA_val (h2 bh hb100) (by omega) (by omega), obind_some, hall, htm]
    have hx := Nat.div_add_mod (wyS fl c p k) 1000
    have hxl := Nat.mod_lt (wyS fl c p k) (y := 1000) (by omega)
    have A := hwb.1
    have B := hwb.2.1
    cases ob with
    | none =>
      unfold enS stS
      dsimp only
      rw [if_pos rfl]
    | some b =>
      have hbo := hob b rfl
      have hy := Nat.div_add_mod b 1000
      have hyl := Nat.mod_lt b (y := 1000) (by omega)
      unfold enS stS
      dsimp only
      generalize hq1 : wyS fl c p k = x at A B hx hxl ⊢
      rw [w32_of (by omega) (by omega), w32_m1, if_neg (by omega), w32_of (by omega) (by omega), w32_of (by omega) (by omega), w32_of (by omega) (by omega)]
      by_cases q1 : (((b / 1000 : Nat)) : Int) < ((x / 1000 : Nat) : Int)
      · rw [if_pos q1, if_neg (show ¬ x < b by omega)]
      · rw [if_neg q1]
        by_cases q2 : ((x / 1000 : Nat) : Int) = ((b / 1000 : Nat) : Int)
        · rw [if_neg (by omega)]
          by_cases q3 : ((x % 1000 : Nat) : Int) < ((b % 1000 : Nat) : Int)
          · rw [if_pos q3, if_pos (show x < b by omega)]
          · rw [if_neg q3, if_neg (show ¬ x < b by omega)]
        · rw [if_pos q2, if_pos (show x < b by omega)]
  unfold xMiles_asks_b8
  rw [w32_of (by omega) (by omega), w32_of (by omega) (by omega), if_neg (by omega), hm, w32_of (by omega) (by omega), w32_of (by omega) (by omega)]
  by_cases q : nwS p k < 5
  · rw [if_neg (by omega), if_pos q]
  · rw [if_pos (by omega), if_neg q]
    cases fl with
    | false =>
      rw [show (if false = true then (1 : Int) else 0) = 0 from rfl, if_pos w32_z]
      exact J _ _ rfl rfl (by omega)
    | true =>
      rw [show (if true = true then (1 : Int) else 0) = 1 from rfl, if_neg wz1, imax_of (by omega) (by omega) (by omega) (by omega), show max 0 ((nwS p k : Int) - 1) = ((nwS p k - 1 : Nat) : Int) by omega]
      exact J _ _ rfl rfl (by omega)
