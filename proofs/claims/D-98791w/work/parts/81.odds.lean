set_option maxRecDepth 100000
/-! PLAIN 22: causes by signs -/
variable {N : Nat} {K : Nat → Nat} {t z r : Nat} {g gm g1 gm1 : GS} {a1 a2 a3 a4 a5 a6 v w : Int} {a : Ab} {rd : Rd} {sn : Nat → Int}
def isS (sn : Nat → Int) (sign as : Int) (s : Nat) : Int := if (s : Int) = sign then as else sn s
def wtN (rd : Rd) (sn : Nat → Int) (c : Nat) (sign as : Int) : Nat → Int
  | 0 => rd.li c
  | i + 1 => if isS sn sign as i = -1 then wtN rd sn c sign as i else wtN rd sn c sign as i * (if isS sn sign as i = 1 then rd.sh c i else 16 - rd.sh c i)
theorem mul16 {x y b : Int} (h1 : 0 ≤ x) (h2 : x ≤ b) (h3 : 0 ≤ y) (h4 : y ≤ 16) : 0 ≤ x * y ∧ x * y ≤ b * 16 := ⟨Int.mul_nonneg h1 h3, Int.mul_le_mul h2 h4 h3 (by omega)⟩
theorem wtN_bd (ok : RdOK rd) {c : Nat} (hc : c < rd.C) (sign as : Int) : ∀ i, i ≤ 3 → 0 ≤ wtN rd sn c sign as i ∧ wtN rd sn c sign as i ≤ 65536 ∧ (i = 0 → wtN rd sn c sign as i ≤ 16) ∧ (i = 1 → wtN rd sn c sign as i ≤ 256) ∧ (i = 2 → wtN rd sn c sign as i ≤ 4096)
  | 0, _ => by
    have := ok.li c hc
    rw [wtN]
    omega
  | i + 1, hi => by
    have h1 := wtN_bd ok hc sign as i (by omega)
    have h2 := ok.sh c i hc (by omega)
    rw [wtN]
    split
    · omega
    · have h3 : 0 ≤ (if isS sn sign as i = 1 then rd.sh c i else 16 - rd.sh c i) ∧ (if isS sn sign as i = 1 then rd.sh c i else 16 - rd.sh c i) ≤ 16 := by split <;> omega
      generalize (if isS sn sign as i = 1 then rd.sh c i else 16 - rd.sh c i) = y at h3 ⊢
      generalize wtN rd sn c sign as i = x at h1 ⊢
      have hi3 : i = 0 ∨ i = 1 ∨ i = 2 := by omega
      rcases hi3 with rfl | rfl | rfl
      · have := mul16 (b := 16) h1.1 (by omega) h3.1 h3.2
        omega
      · have := mul16 (b := 256) h1.1 (by omega) h3.1 h3.2
        omega
      · have := mul16 (b := 4096) h1.1 (by omega) h3.1 h3.2
        omega
def wtS (rd : Rd) (sn : Nat → Int) (c : Nat) (sign as : Int) : Int := wtN rd sn c sign as 3
theorem wtS_bd (ok : RdOK rd) {c : Nat} (hc : c < rd.C) (sign as : Int) : 0 ≤ wtS rd sn c sign as ∧ wtS rd sn c sign as ≤ 65536 := by
  have := wtN_bd (sn := sn) ok hc sign as 3 (by omega)
  exact ⟨this.1, this.2.1⟩
theorem x_weight_eq (hN : 100000000000000000000 ≤ N) (hW : WFK K) (h : Inv N t K z g gm a) {c : Nat} (hc : c < a.rd.C) {sign as : Int} (h1 : -1 ≤ sign ∧ sign ≤ 2) (h2 : -1 ≤ as ∧ as ≤ 1) : x_weight N K g c sign as = some (wtS a.rd (gA gm 28) c sign as) := by
  have hC := h.ok.C
  unfold x_weight
  rw [rdR_of h.r12 h.kr, obind_some, rdA_val (h.xr.li c hc) (by omega) (by omega), obind_some]
  refine loop_up' (N := N) (fun i => (wtN a.rd (gA gm 28) c sign as i, (i : Int))) 3 _ rfl (fun i hi => ?_) ?_ (by omega)
  · have hsn := h.sn i hi
    have hsh := h.ok.sh c i hc hi
    have hq : rdQ K g (a.r + 13) 4 c 10003 = some (a.r + 14 + c) := rdQ_of (by omega) (by omega) (h.xr.sw c (by omega)) (by
      have := hW.blk (ci := 8) (by omega) h.kr (14 + c) (by show 14 + c < 18; omega) (v := 10003) (by
        have : c = 0 ∨ c = 1 ∨ c = 2 ∨ c = 3 := by omega
        rcases this with rfl | rfl | rfl | rfl <;> rfl)
      rw [show a.r + 14 + c = a.r + (14 + c) by omega]
      exact this)
    have key : ∀ is : Int, is = isS (gA gm 28) sign as i → -1 ≤ is ∧ is ≤ 1 → x_weight_j37 N K g c sign as (wtN a.rd (gA gm 28) c sign as i) i is = some (.inl ((wtN a.rd (gA gm 28) c sign as (i + 1), ((i + 1 : Nat) : Int)))) := by
      intro is e1 e2
      unfold x_weight_j37 x_weight_j83
      rw [w32_of (by omega) (by omega), w32_m1, wtN, ← e1]
      by_cases q1 : is = -1
      · rw [if_pos q1, if_pos q1]; rfl
      · rw [if_neg q1, if_neg q1, show w32 1 = 1 from rfl, rdR_of h.r12 h.kr, obind_some, obind_some, hq, obind_some, obind_some, rdA_val (h.xr.sh c i hc (by omega) hi) (by omega) (by omega), obind_some, obind_some]
        by_cases q2 : is = 1
        · rw [if_neg (by omega), if_pos q2]; rfl
        · rw [if_pos q2, if_neg q2]; rfl
    unfold x_weight_b14
    dsimp only
    rw [w32_of (by omega) (by omega), w32_of (by omega) (by omega), if_neg (by omega), w32_of (by omega) (by omega)]
    by_cases q : (i : Int) = sign
    · rw [if_neg (by omega)]
      exact key as (by unfold isS; rw [if_pos q]) h2
    · rw [if_pos q, rdA_val (hsn.1) (by omega) (by omega), obind_some]
      exact key _ (by unfold isS; rw [if_neg q]) hsn.2
  · unfold x_weight_b14
    dsimp only
    rw [if_pos (by decide)]; rfl
theorem m_weightOf_eq (hN : 100000000000000000000 ≤ N) (ok : RdOK rd) (h : MRd gm rd) (hsn : ∀ s, s < 3 → gA gm 28 s = sn s ∧ -1 ≤ sn s ∧ sn s ≤ 1) {c : Nat} (hc : c < rd.C) {sign as : Int} (h1 : -1 ≤ sign ∧ sign ≤ 2) (h2 : -1 ≤ as ∧ as ≤ 1) : m_weightOf N gm c sign as = some (wtS rd sn c sign as) := by
  have hC := ok.C
  have hli := ok.li c hc
  unfold m_weightOf
  rw [rdA_atv (h.li c hc) (by omega) (by omega) (by omega), obind_some, w32_of (by omega) (by omega)]
  refine loop_up' (N := N) (fun i => (wtN rd sn c sign as i, (i : Int))) 3 _ rfl (fun i hi => ?_) ?_ (by omega)
  · have hs := hsn i hi
    have hsh := ok.sh c i hc hi
    have key : ∀ is : Int, is = isS sn sign as i → -1 ≤ is ∧ is ≤ 1 → m_weightOf_j37 N gm c sign as (wtN rd sn c sign as i) i is = some (.inl ((wtN rd sn c sign as (i + 1), ((i + 1 : Nat) : Int)))) := by
      intro is e1 e2
      unfold m_weightOf_j37 m_weightOf_j90
      rw [w32_of (by omega) (by omega), w32_m1, wtN, ← e1]
      by_cases q1 : is = -1
      · rw [if_neg (by omega), if_pos q1]; rfl
      · rw [if_pos q1, if_neg q1, show w32 1 = 1 from rfl, rdA_atv (h.sh c i hc hi) (by omega) (by omega) (by omega), obind_some, obind_some, w32_of (by omega) (by omega), w32_of (by omega) (by omega)]
        by_cases q2 : is = 1
        · rw [if_neg (by omega), if_pos q2]; rfl
        · rw [if_pos q2, if_neg q2]; rfl
    unfold m_weightOf_b14
    dsimp only
    rw [w32_of (by omega) (by omega), w32_of (by omega) (by omega), if_neg (by omega), w32_of (by omega) (by omega)]
    by_cases q : (i : Int) = sign
    · rw [if_neg (by omega)]
      exact key as (by unfold isS; rw [if_pos q]) h2
    · rw [if_pos q, rdA_val hs.1 (by omega) (by omega), obind_some]
      exact key _ (by unfold isS; rw [if_neg q]) hs.2
  · unfold m_weightOf_b14
    dsimp only
    rw [if_pos (by decide)]; rfl
theorem isS_m1 {s : Nat} {x y : Int} : isS sn (-1) x s = isS sn (-1) y s := by
  unfold isS
  rw [if_neg (by omega), if_neg (by omega)]
theorem wtS_m1 {c : Nat} {x y : Int} : wtS rd sn c (-1) x = wtS rd sn c (-1) y := by
  have : ∀ i, wtN rd sn c (-1) x i = wtN rd sn c (-1) y i := by
    intro i
    induction i with
    | zero => rfl
    | succ i ih => rw [wtN, wtN, ih, isS_m1 (x := x) (y := y)]
  exact this 3
theorem msn (h : Inv N t K z g gm a) : ∀ s, s < 3 → gA (sI gm 900 0 0) 28 s = gA gm 28 s ∧ -1 ≤ gA gm 28 s ∧ gA gm 28 s ≤ 1 := fun s hs => ⟨rfl, (h.sn s hs).2⟩
theorem sumw_bd (ok : RdOK rd) (i : Nat) (hi : i ≤ rd.C) (sign as : Int) : 0 ≤ sumN i (fun c => wtS rd sn c sign as) ∧ sumN i (fun c => wtS rd sn c sign as) ≤ 262144 := by
  have hC := ok.C
  have := sumN_bd (n := i) (b := 65536) (f := fun c => wtS rd sn c sign as) fun k hk => wtS_bd ok (by omega) sign as
  omega
theorem s_odds (hN : 100000000000000000000 ≤ N) (hW : WFK K) (h : Inv N t K z g gm a) (h394 : 394 ≤ z) (ht : t < 64) (e1 : w32 a1 = a1) (e2 : w32 a2 = a2) : StepOK N t (lc_36 N K z g gm a1 a2 a3 a4 a5 a6) := by
  have hC := h.ok.C
  have mr := mrd_th h.mr
  by_cases hc : 0 ≤ a1 ∧ a1 < a.rd.C
  · obtain ⟨c, rfl⟩ := nat_of hc.1
    have hcc : c < a.rd.C := by omega
    by_cases hd : 0 ≤ a2 ∧ a2 ≤ 1
    · have hs := sumw_bd (sn := gA gm 28) h.ok a.rd.C (Nat.le_refl _) (-1) (-1)
      have hw := wtS_bd (sn := gA gm 28) h.ok hcc (-1) (-1)
      obtain ⟨S, hS⟩ := nat_of hs.1
      obtain ⟨W, hWt⟩ := nat_of hw.1
      refine o_odds_v (v := if S = 0 then a2 else partS W S a2) (w := if S = 0 then a2 else partS W S a2) (g1 := g) (gm1 := sI gm 900 0 0) ?_ ?_ th0 rfl (h.val .refl .th h394)
      · have L : loopN (fun s => x_odds_b24 N K g c a2 s.1 s.2) N (0, 0) = some (S : Int) := by
          rw [← hS]
          refine loop_up' (N := N) (fun i => (sumN i (fun c => wtS a.rd (gA gm 28) c (-1) (-1)), (i : Int))) a.rd.C _ rfl (fun i hi => ?_) ?_ (by omega)
          · unfold x_odds_b24
            dsimp only
            rw [rdR_of h.r12 h.kr, obind_some, h.xr.C, w32_of (by omega) (by omega), w32_of (by omega) (by omega), if_neg (by omega), x_weight_eq hN hW h hi (by omega) (by omega), obind_some]
            rfl
          · unfold x_odds_b24
            dsimp only
            rw [rdR_of h.r12 h.kr, obind_some, h.xr.C, if_pos (by omega)]
        unfold x_odds
        rw [rdR_of h.r12 h.kr, obind_some, x_isThere_ok (by rw [e1]; omega) (by rw [h.xr.C, e1, w32_of (by omega) (by omega)]; omega), obind_some]
        dsimp only [thT]
        rw [x_within_ok (by rw [e2, w32_z]; omega) (by rw [e2, w32_of (by omega) (by omega)]; omega), obind_some]
        dsimp only
        rw [L, obind_some, w32_of (by omega) (by omega)]
        by_cases q : S = 0
        · rw [if_neg (by omega), if_pos q, e2]
        · rw [if_pos (by omega), if_neg q, x_weight_eq hN hW h hcc (by omega) (by omega), obind_some, hWt, w32_of (by omega) (by omega), x_part_eq hN (by omega) (by omega) (by omega) (by omega), obind_some]
      · have L : loopN (fun s => m_odds_b47 N (sI gm 900 0 0) c a2 s.1 s.2) N (0, 0) = some (S : Int) := by
          rw [← hS]
          refine loop_up' (N := N) (fun i => (sumN i (fun c => wtS a.rd (gA gm 28) c (-1) (-1)), (i : Int))) a.rd.C _ rfl (fun i hi => ?_) ?_ (by omega)
          · unfold m_odds_b47
            dsimp only
            rw [mr.C, w32_of (by omega) (by omega), w32_of (by omega) (by omega), if_neg (by omega), m_weightOf_eq hN h.ok mr (msn h) hi (by omega) (by omega), obind_some, wtS_m1 (y := -1)]
            rfl
          · unfold m_odds_b47
            dsimp only
            rw [mr.C, if_pos (by omega)]
        unfold m_odds
        rw [mr.C, m_within_eq, e1, w32_z, w32_of (by omega) (by omega), if_pos (by omega), obind_some, m_may_ok th0, obind_some, if_neg wz1, m_within_eq, e2, w32_z, w32_of (by omega) (by omega), if_pos hd, obind_some, m_may_ok th0, obind_some, if_pos wz1, L, obind_some]
        have hcmp := l_cmp_nat (a := S) (b := 0) (by omega) (by omega)
        rw [show ((0 : Nat) : Int) = 0 from rfl] at hcmp
        rw [hcmp]
        by_cases q : S = 0
        · rw [if_neg (show ¬(0 < S) by omega), if_pos q, if_neg wz0, if_pos q]
        · rw [if_pos (show 0 < S by omega), if_pos wz1, if_neg q, m_weightOf_eq hN h.ok mr (msn h) hcc (by omega) (by omega), obind_some, wtS_m1 (y := -1), hWt, m_least_eq hN (by omega) (by omega) (by omega) (by omega), obind_some]
    · refine o_odds_r1 (w := 0) ?_ ?_ h394 ht h
      · unfold x_odds
        rw [rdR_of h.r12 h.kr, obind_some, x_isThere_ok (by rw [e1]; omega) (by rw [h.xr.C, e1, w32_of (by omega) (by omega)]; omega), obind_some]
        dsimp only [thT]
        rw [x_within_no (by rw [e2, w32_z, w32_of (by omega) (by omega)]; exact hd), obind_some]
      · unfold m_odds m_odds_j40
        rw [mr.C, m_within_eq, e1, w32_z, w32_of (by omega) (by omega), if_pos (by omega), obind_some, m_may_ok th0, obind_some, if_neg wz1, m_within_eq, e2, w32_z, w32_of (by omega) (by omega), if_neg hd, obind_some, m_may_no1 th0 (by omega), obind_some, if_neg wz0]
        rfl
  · refine o_odds_r0 (w := 0) ?_ ?_ h394 ht h
    · unfold x_odds
      rw [rdR_of h.r12 h.kr, obind_some, x_isThere_no (by rw [e1, h.xr.C, w32_of (a := (a.rd.C : Int)) (by omega) (by omega)]; exact hc), obind_some]
      rfl
    · unfold m_odds m_odds_j40
      rw [mr.C, m_within_eq, e1, w32_z, w32_of (by omega) (by omega), if_neg (by omega), obind_some, m_may_no0 th0 (by omega), obind_some, if_pos w32_z]
      rfl
def mxW (rd : Rd) (sn : Nat → Int) (sign as : Int) (i : Nat) : Int := mxN i fun c => wtS rd sn c sign as
theorem mxW_bd (ok : RdOK rd) {i : Nat} (hi : i ≤ rd.C) (sign as : Int) : 0 ≤ mxW rd sn sign as i ∧ mxW rd sn sign as i ≤ 65536 := mxN_bd (by omega) fun k hk => (wtS_bd ok (by omega) sign as).2
theorem x_greatest_eq (hN : 100000000000000000000 ≤ N) (hW : WFK K) (h : Inv N t K z g gm a) {sign as : Int} (h1 : -1 ≤ sign ∧ sign ≤ 2) (h2 : -1 ≤ as ∧ as ≤ 1) : x_greatest N K g sign as = some (mxW a.rd (gA gm 28) sign as a.rd.C) := by
  have hC := h.ok.C
  unfold x_greatest
  refine loop_up' (N := N) (fun i => (mxW a.rd (gA gm 28) sign as i, (i : Int))) a.rd.C _ rfl (fun i hi => ?_) ?_ (by omega)
  · have b1 := mxW_bd (sn := gA gm 28) h.ok (i := i) (by omega) sign as
    have b2 := wtS_bd (sn := gA gm 28) h.ok hi sign as
    unfold x_greatest_b5
    dsimp only
    rw [rdR_of h.r12 h.kr, obind_some, h.xr.C, w32_of (by omega) (by omega), w32_of (by omega) (by omega), if_neg (by omega), x_weight_eq hN hW h hi h1 h2, obind_some, imax_of (by omega) (by omega) (by omega) (by omega)]
    rfl
  · unfold x_greatest_b5
    dsimp only
    rw [rdR_of h.r12 h.kr, obind_some, h.xr.C, if_pos (by omega)]; rfl
theorem l_cmp_le {x y : Int} (hx : 0 ≤ x ∧ x ≤ 1000000) (hy : 0 ≤ y ∧ y ≤ 1000000) : (w32 (l_cmp x y) ≤ 0) ↔ x ≤ y := by
  obtain ⟨x, rfl⟩ := nat_of hx.1
  obtain ⟨y, rfl⟩ := nat_of hy.1
  rw [l_cmp_nat (by omega) (by omega)]
  by_cases h1 : y < x
  · rw [if_pos h1]; exact ⟨fun q => absurd q (by decide), fun _ => by omega⟩
  · rw [if_neg h1]
    by_cases h2 : x = y
    · rw [if_pos h2]; exact ⟨fun _ => by omega, fun _ => by decide⟩
    · rw [if_neg h2]; exact ⟨fun _ => by omega, fun _ => by decide⟩
theorem l_cmp_0 {x y : Int} (hx : 0 ≤ x ∧ x ≤ 1000000) (hy : 0 ≤ y ∧ y ≤ 1000000) : (w32 (l_cmp x y) = 0) ↔ x = y := by
  obtain ⟨x, rfl⟩ := nat_of hx.1
  obtain ⟨y, rfl⟩ := nat_of hy.1
  rw [l_cmp_nat (by omega) (by omega)]
  by_cases h1 : y < x
  · rw [if_pos h1]; exact ⟨fun q => absurd q (by decide), fun _ => by omega⟩
  · rw [if_neg h1]
    by_cases h2 : x = y
    · rw [if_pos h2]; exact ⟨fun _ => by omega, fun _ => by decide⟩
    · rw [if_neg h2]; exact ⟨fun q => absurd q (by decide), fun _ => by omega⟩
theorem m_mostBy_eq (hN : 100000000000000000000 ≤ N) (ok : RdOK rd) (h : MRd gm rd) (hsn : ∀ s, s < 3 → gA gm 28 s = sn s ∧ -1 ≤ sn s ∧ sn s ≤ 1) {sign as : Int} (h1 : -1 ≤ sign ∧ sign ≤ 2) (h2 : -1 ≤ as ∧ as ≤ 1) : m_mostBy N gm sign as = some (mxW rd sn sign as rd.C) := by
  have hC := ok.C
  unfold m_mostBy
  refine loop_up' (N := N) (fun i => (mxW rd sn sign as i, (i : Int))) rd.C _ rfl (fun i hi => ?_) ?_ (by omega)
  · have b1 := mxW_bd (sn := sn) ok (i := i) (by omega) sign as
    have b2 := wtS_bd (sn := sn) ok hi sign as
    unfold m_mostBy_b5 m_mostBy_j39
    dsimp only
    rw [h.C, w32_of (by omega) (by omega), w32_of (by omega) (by omega), if_neg (by omega), m_weightOf_eq hN ok h hsn hi h1 h2, obind_some, obind_some]
    have e : mxW rd sn sign as (i + 1) = max (mxW rd sn sign as i) (wtS rd sn i sign as) := rfl
    by_cases q : wtS rd sn i sign as ≤ mxW rd sn sign as i
    · rw [if_pos ((l_cmp_le (by omega) (by omega)).mpr q), e, Int.max_eq_left q]; rfl
    · rw [if_neg (fun q2 => q ((l_cmp_le (by omega) (by omega)).mp q2)), e, Int.max_eq_right (by omega)]; rfl
  · unfold m_mostBy_b5
    dsimp only
    rw [h.C, if_pos (by omega)]; rfl
def lkS (rd : Rd) (sn : Nat → Int) : Nat → Int
  | 0 => -1
  | i + 1 => if wtS rd sn i (-1) (-1) ≤ (if lkS rd sn i = -1 then 0 else wtS rd sn (lkS rd sn i).toNat (-1) (-1)) then lkS rd sn i else i
theorem lkS_is (ok : RdOK rd) : ∀ i, i ≤ rd.C → (lkS rd sn i = -1 ∧ mxW rd sn (-1) (-1) i = 0) ∨ ∃ f : Nat, f < i ∧ lkS rd sn i = f ∧ wtS rd sn f (-1) (-1) = mxW rd sn (-1) (-1) i ∧ 0 < mxW rd sn (-1) (-1) i ∧ ∀ k, k < f → wtS rd sn k (-1) (-1) < mxW rd sn (-1) (-1) i
  | 0, _ => Or.inl ⟨rfl, rfl⟩
  | i + 1, hi => by
    have e : mxW rd sn (-1) (-1) (i + 1) = max (mxW rd sn (-1) (-1) i) (wtS rd sn i (-1) (-1)) := rfl
    have hw := wtS_bd (sn := sn) ok (c := i) (by omega) (-1) (-1)
    have hmx : ∀ j k, k < j → wtS rd sn k (-1) (-1) ≤ mxW rd sn (-1) (-1) j := by
      intro j
      induction j with
      | zero => intro k hk; omega
      | succ j ih =>
        intro k hk
        have e : mxW rd sn (-1) (-1) (j + 1) = max (mxW rd sn (-1) (-1) j) (wtS rd sn j (-1) (-1)) := rfl
        by_cases q : k = j
        · subst q; omega
        · have := ih k (by omega); omega
    rcases lkS_is ok i (by omega) with ⟨h1, h2⟩ | ⟨f, h1, h2, h3, h4, h5⟩
    · rw [lkS, h1, if_pos rfl]
      by_cases q : wtS rd sn i (-1) (-1) ≤ 0
      · rw [if_pos q]; exact Or.inl ⟨rfl, by omega⟩
      · rw [if_neg q]
        exact Or.inr ⟨i, by omega, rfl, by omega, by omega, fun k hk => by have := hmx i k hk; omega⟩
    · rw [lkS, h2, if_neg (show ¬((f : Int) = -1) by omega), show ((f : Int)).toNat = f from rfl, h3]
      by_cases q : wtS rd sn i (-1) (-1) ≤ mxW rd sn (-1) (-1) i
      · rw [if_pos q]
        exact Or.inr ⟨f, by omega, rfl, by omega, by omega, fun k hk => by have := h5 k hk; omega⟩
      · rw [if_neg q]
        exact Or.inr ⟨i, by omega, rfl, by omega, by omega, fun k hk => by have := hmx i k hk; omega⟩
theorem lkS_bd : ∀ i, -1 ≤ lkS rd sn i ∧ lkS rd sn i < i
  | 0 => by simp [lkS]
  | i + 1 => by
    have := lkS_bd i
    rw [lkS]
    generalize lkS rd sn i = x at this ⊢
    split <;> omega
theorem s_likeliest (hN : 100000000000000000000 ≤ N) (hW : WFK K) (h : Inv N t K z g gm a) (h394 : 394 ≤ z) : StepOK N t (lc_37 N K z g gm a1 a2 a3 a4 a5 a6) := by
  have hC := h.ok.C
  have mr := mrd_th h.mr
  have hx : x_likeliest N K g = some (lkS a.rd (gA gm 28) a.rd.C) := by
    unfold x_likeliest
    refine loop_up' (N := N) (fun i => (lkS a.rd (gA gm 28) i, (i : Int))) a.rd.C _ rfl (fun i hi => ?_) ?_ (by omega)
    · have hb := lkS_bd (rd := a.rd) (sn := gA gm 28) i
      have b2 := wtS_bd (sn := gA gm 28) h.ok hi (-1) (-1)
      unfold x_likeliest_b4 x_likeliest_j38
      dsimp only
      rw [rdR_of h.r12 h.kr, obind_some, h.xr.C, w32_of (by omega) (by omega), w32_of (by omega) (by omega), if_neg (by omega), x_weight_eq hN hW h hi (by omega) (by omega), obind_some, w32_of (by omega) (by omega), w32_m1, lkS]
      by_cases c : lkS a.rd (gA gm 28) i = -1
      · rw [if_neg (by omega), if_pos c, w32_z, w32_of (by omega) (by omega)]
        split <;> rfl
      · obtain ⟨u, hu⟩ := nat_of (x := lkS a.rd (gA gm 28) i) (by omega)
        have b3 := wtS_bd (sn := gA gm 28) h.ok (c := u) (by omega) (-1) (-1)
        rw [if_pos c, if_neg c, hu, x_weight_eq hN hW h (by omega) (by omega) (by omega), obind_some, show ((u : Int)).toNat = u from rfl, w32_of (by omega) (by omega), w32_of (by omega) (by omega)]
        split <;> rfl
    · unfold x_likeliest_b4
      dsimp only
      rw [rdR_of h.r12 h.kr, obind_some, h.xr.C, if_pos (by omega)]; rfl
  have hm : m_likeliest N gm = some (lkS a.rd (gA gm 28) a.rd.C, sI gm 900 0 0) := by
    have hmb := mxW_bd (sn := gA gm 28) h.ok (i := a.rd.C) (Nat.le_refl _) (-1) (-1)
    have e0 : mxW a.rd (gA gm 28) (-1) 0 a.rd.C = mxW a.rd (gA gm 28) (-1) (-1) a.rd.C := mxN_congr fun k _ => wtS_m1
    unfold m_likeliest
    rw [m_mostBy_eq hN h.ok mr (msn h) (by omega) (by omega), obind_some, e0]
    have hW2 : ∀ i, i < a.rd.C → m_weightOf N (sI gm 900 0 0) i (-1) 0 = some (wtS a.rd (gA gm 28) i (-1) (-1)) := fun i hi => by
      rw [m_weightOf_eq hN h.ok mr (msn h) hi (by omega) (by omega), wtS_m1 (y := -1)]
    rcases lkS_is (sn := gA gm 28) h.ok a.rd.C (Nat.le_refl _) with ⟨h1, h2⟩ | ⟨f, h1, h2, h3, h4, h5⟩
    · rw [h1, h2]
      refine loop_up' (N := N) (fun i => (i : Int)) a.rd.C _ rfl (fun i hi => ?_) ?_ (by omega)
      · unfold m_likeliest_b14
        rw [mr.C, w32_of (by omega) (by omega), w32_of (by omega) (by omega), if_neg (by omega), if_pos (by decide)]; rfl
      · unfold m_likeliest_b14
        rw [mr.C, if_pos (by omega)]; rfl
    · rw [h2]
      refine loop_up' (N := N) (fun i => (i : Int)) f _ rfl (fun i hi => ?_) ?_ (by omega)
      · have b2 := wtS_bd (sn := gA gm 28) h.ok (c := i) (by omega) (-1) (-1)
        have b3 := h5 i hi
        unfold m_likeliest_b14
        rw [mr.C, w32_of (by omega) (by omega), w32_of (by omega) (by omega), if_neg (by omega), if_neg (fun q => by have := (l_cmp_le (by omega) (by omega)).mp q; omega), hW2 i (by omega), obind_some, if_pos (fun q => by have := (l_cmp_0 (by omega) (by omega)).mp q; omega)]; rfl
      · unfold m_likeliest_b14
        rw [mr.C, w32_of (by omega) (by omega), w32_of (by omega) (by omega), if_neg (by omega), if_neg (fun q => by have := (l_cmp_le (by omega) (by omega)).mp q; omega), hW2 f (by omega), obind_some, if_neg (fun q => q ((l_cmp_0 (by omega) (by omega)).mpr h3))]; rfl
  refine ⟨((K, z, g), sI gm 900 0 0), ?_, a, h.val0 .refl .th h394⟩
  unfold lc_37
  rw [hx, hm, obind_some, obind_some]
  dsimp only
  rw [if_pos rfl]
def vaS (rd : Rd) (sn : Nat → Int) (s : Nat) : Int := mxW rd sn s 0 rd.C + mxW rd sn s 1 rd.C
theorem vaS_bd (ok : RdOK rd) (s : Nat) : 0 ≤ vaS rd sn s ∧ vaS rd sn s ≤ 131072 := by
  have h1 := mxW_bd (sn := sn) ok (i := rd.C) (Nat.le_refl _) s 0
  have h2 := mxW_bd (sn := sn) ok (i := rd.C) (Nat.le_refl _) s 1
  unfold vaS
  omega
def akS (rd : Rd) (sn : Nat → Int) : Nat → Int × Int
  | 0 => (-1, 0)
  | i + 1 => if sn i = -1 ∧ ((akS rd sn i).1 = -1 ∨ (akS rd sn i).2 < vaS rd sn i) then ((i : Int), vaS rd sn i) else akS rd sn i
theorem akS_bd (ok : RdOK rd) : ∀ i, (-1 ≤ (akS rd sn i).1 ∧ (akS rd sn i).1 < i) ∧ 0 ≤ (akS rd sn i).2 ∧ (akS rd sn i).2 ≤ 131072
  | 0 => by simp [akS]
  | i + 1 => by
    have h1 := akS_bd ok i
    have h2 := vaS_bd (sn := sn) ok i
    rw [akS]
    split
    · dsimp only; omega
    · omega
theorem s_ask (hN : 100000000000000000000 ≤ N) (hW : WFK K) (h : Inv N t K z g gm a) (h394 : 394 ≤ z) : StepOK N t (lc_38 N K z g gm a1 a2 a3 a4 a5 a6) := by
  have mr := mrd_th h.mr
  have hx : x_ask N K g = some (akS a.rd (gA gm 28) 3).1 := by
    unfold x_ask
    refine loop_up' (N := N) (fun i => ((akS a.rd (gA gm 28) i).1, (akS a.rd (gA gm 28) i).2, (i : Int))) 3 _ rfl (fun i hi => ?_) ?_ (by omega)
    · have hb := akS_bd (sn := gA gm 28) h.ok i
      have hv := vaS_bd (sn := gA gm 28) h.ok i
      have hs := h.sn i hi
      unfold x_ask_b6 x_ask_j53
      dsimp only
      rw [w32_of (by omega) (by omega), w32_of (by omega) (by omega), if_neg (by omega), rdA_val hs.1 (by omega) (by omega), obind_some, w32_of (by omega) (by omega), w32_m1, akS]
      by_cases q : gA gm 28 i = -1
      · rw [if_pos q, x_greatest_eq hN hW h (by omega) (by omega), obind_some, x_greatest_eq hN hW h (by omega) (by omega), obind_some, show mxW a.rd (gA gm 28) i 0 a.rd.C + mxW a.rd (gA gm 28) i 1 a.rd.C = vaS a.rd (gA gm 28) i from rfl, w32_of (by omega) (by omega)]
        by_cases q2 : (akS a.rd (gA gm 28) i).1 = -1
        · rw [if_pos q2, if_pos ⟨q, Or.inl q2⟩]; rfl
        · rw [if_neg q2, w32_of (by omega) (by omega), w32_of (by omega) (by omega)]
          by_cases q3 : (akS a.rd (gA gm 28) i).2 < vaS a.rd (gA gm 28) i
          · rw [if_pos q3, if_pos ⟨q, Or.inr q3⟩]; rfl
          · rw [if_neg q3, if_neg (fun q4 => q4.2.elim q2 q3)]; rfl
      · rw [if_neg q, if_neg (fun q4 => q q4.1)]; rfl
    · unfold x_ask_b6
      dsimp only
      rw [if_pos (by decide)]; rfl
  have hm : m_ask N gm = some ((akS a.rd (gA gm 28) 3).1, sI gm 900 0 0) := by
    unfold m_ask
    refine loop_up' (N := N) (fun i => ((akS a.rd (gA gm 28) i).1, (akS a.rd (gA gm 28) i).2, (i : Int))) 3 _ rfl (fun i hi => ?_) ?_ (by omega)
    · have hb := akS_bd (sn := gA gm 28) h.ok i
      have hv := vaS_bd (sn := gA gm 28) h.ok i
      have hs := msn h i hi
      unfold m_ask_b12 m_ask_j64
      dsimp only
      rw [w32_of (by omega) (by omega), w32_of (by omega) (by omega), if_neg (by omega), rdA_val hs.1 (by omega) (by omega), obind_some, w32_of (by omega) (by omega), w32_m1, akS]
      by_cases q : gA gm 28 i = -1
      · rw [if_pos q, m_mostBy_eq hN h.ok mr (msn h) (by omega) (by omega), obind_some, m_mostBy_eq hN h.ok mr (msn h) (by omega) (by omega), obind_some, show mxW a.rd (gA gm 28) i 0 a.rd.C + mxW a.rd (gA gm 28) i 1 a.rd.C = vaS a.rd (gA gm 28) i from rfl, w32_of (by omega) (by omega)]
        by_cases q2 : (akS a.rd (gA gm 28) i).1 = -1
        · rw [if_pos q2, if_pos ⟨q, Or.inl q2⟩]; rfl
        · rw [if_neg q2]
          by_cases q3 : (akS a.rd (gA gm 28) i).2 < vaS a.rd (gA gm 28) i
          · rw [if_pos (by have := fun q4 => (l_cmp_le (x := vaS a.rd (gA gm 28) i) (y := (akS a.rd (gA gm 28) i).2) (by omega) (by omega)).mp q4; omega), if_pos ⟨q, Or.inr q3⟩]; rfl
          · rw [if_neg (by have := (l_cmp_le (x := vaS a.rd (gA gm 28) i) (y := (akS a.rd (gA gm 28) i).2) (by omega) (by omega)).mpr (by omega); omega), if_neg (fun q4 => q4.2.elim q2 q3)]; rfl
      · rw [if_neg q, if_neg (fun q4 => q q4.1)]; rfl
    · unfold m_ask_b12
      dsimp only
      rw [if_pos (by decide)]; rfl
  refine ⟨((K, z, g), sI gm 900 0 0), ?_, a, h.val0 .refl .th h394⟩
  unfold lc_38
  rw [hx, hm, obind_some, obind_some]
  dsimp only
  rw [if_pos rfl]
