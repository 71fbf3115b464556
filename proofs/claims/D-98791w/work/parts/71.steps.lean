set_option maxRecDepth 100000
/-! PLAIN 12: refused calls; the comparison -/
variable {N : Nat} {K K' : Nat → Nat} {t z z' : Nat} {g gm g1 gm1 : GS} {v w : Int} {a : Ab} {cx : Option (Int × S3)} {cm : Option (Int × GS)}
def lcmp (cx : Option (Int × S3)) (cm : Option (Int × GS)) : Option (S3 × GS) :=
  cx.bind fun c => cm.bind fun d => (m_thrown d.2).bind fun u =>
  if w32 u = w32 c.1 then
    if ¬ w32 c.1 = 0 then
      some ((c.2.1, c.2.2.1, c.2.2.2), d.2)
    else
      (rdA c.2.2.2 393 1 0).bind fun v =>
      if w32 (l_cmp v (w32 d.1)) = 0 then
        some ((c.2.1, c.2.2.1, c.2.2.2), d.2)
      else
        none
  else
    none
def lcmpL (cx : Option (Int × S3)) (cm : Option (Int × GS)) : Option (S3 × GS) :=
  cx.bind fun c => cm.bind fun d => (m_thrown d.2).bind fun u =>
  if w32 u = w32 c.1 then
    if ¬ w32 c.1 = 0 then
      some ((c.2.1, c.2.2.1, c.2.2.2), d.2)
    else
      (rdA c.2.2.2 393 1 0).bind fun v =>
      if w32 (l_cmp v d.1) = 0 then
        some ((c.2.1, c.2.2.1, c.2.2.2), d.2)
      else
        none
  else
    none
def StepOK (N t : Nat) (res : Option (S3 × GS)) : Prop := ∃ r, res = some r ∧ ∃ a, Inv N (t + 1) r.1.1 r.1.2.1 r.1.2.2 r.2 a
theorem lim_le {α : Type} {z : Nat} {x : Option α} (h : z ≤ 12000) : lim z x = x := if_pos h
theorem l_cmp_eq {v w : Int} (h : w64 v = w64 w) : l_cmp v w = 0 := by
  unfold l_cmp
  rw [if_neg (by omega), if_pos h]
theorem st_v (hx : cx = some (0, (K', z', sA g1 393 0 (w32 v)))) (hm : cm = some (w, gm1)) (ht : gI gm1 900 0 = 0) (hv : w32 v = w32 w) (hI : Inv N (t + 1) K' z' (sA g1 393 0 (w32 v)) gm1 a) : StepOK N t (lcmp cx cm) := by
  subst hx hm
  refine ⟨((K', z', sA g1 393 0 (w32 v)), gm1), ?_, a, hI⟩
  unfold lcmp m_thrown
  rw [obind_some, obind_some, obind_some]
  dsimp only
  rw [ht, if_pos rfl, if_neg (by decide), rdA_atv (i := 0) (k := 0) (v := w32 v) (by simp [gA_sA]) rfl (by omega) (by omega), obind_some, hv, l_cmp_eq rfl, if_pos (by decide)]
theorem st_vL (hx : cx = some (0, (K', z', sA g1 393 0 v))) (hm : cm = some (w, gm1)) (ht : gI gm1 900 0 = 0) (hv : v = w) (hI : Inv N (t + 1) K' z' (sA g1 393 0 v) gm1 a) : StepOK N t (lcmpL cx cm) := by
  subst hx hm
  refine ⟨((K', z', sA g1 393 0 v), gm1), ?_, a, hI⟩
  unfold lcmpL m_thrown
  rw [obind_some, obind_some, obind_some]
  dsimp only
  rw [ht, if_pos rfl, if_neg (by decide), rdA_atv (i := 0) (k := 0) (v := v) (by simp [gA_sA]) rfl (by omega) (by omega), obind_some, hv, l_cmp_eq rfl, if_pos (by decide)]
/-- a refused call -/
theorem Inv.ref {K' : Nat → Nat} {c : Int} (h : Inv N t K z g gm a) (j : Nat) (hj : j < 3) (hK : ∀ q, q < z → K' q = K q) (h394 : 394 ≤ z) (ht : t < 64) (hz : z ≤ z') (hz2 : z' ≤ 394 + 181 * (t + 1)) : Inv N (t + 1) K' z' (sA g 12 j (gA g 12 j + 1)) (sA (sI (sI gm 900 0 0) 900 0 c) 1 j (gA gm 1 j + 1)) a := by
  refine h.same0 ⟨fun _ _ _ _ => rfl, fun _ _ _ _ _ => rfl, fun q k _ _ h1 _ => ?_, fun _ _ _ _ => rfl⟩ ⟨fun f hf => ?_, fun q k hq => ?_⟩ (fun i hi => ?_) hK h394 hz hz2
  · rw [gA_sA, if_neg (by omega)]
  · show gI (sI (sI gm 900 0 0) 900 0 c) f 0 = gI gm f 0
    rw [gI_sI, if_neg (by omega), gI_sI, if_neg (by omega)]
  · rw [gA_sA, if_neg (by omega)]; rfl
  · have := h.rf i hi
    by_cases e : i = j
    · subst e
      simp [gA_sA, gA_sI, h.rf i hi]
    · simp [gA_sA, gA_sI, e, h.rf i hi]
theorem kE_no3 {e z : Nat} {K : Nat → Nat} (h : e ≠ 3) : kE e K z = K := by
  funext o
  unfold kE
  rw [if_neg (fun q => h q.1)]
theorem st_r {c j : Nat} {cd : Int} (hx : cx = some (cd, (kE c K z, z + 1, sA g 12 j (gA g 12 j + 1)))) (hm : cm = some (w, sA (sI (sI gm 900 0 0) 900 0 cd) 1 j (gA gm 1 j + 1))) (hc : c ≠ 3) (hj : j < 3) (h1 : cd = 1 ∨ cd = 2) (h394 : 394 ≤ z) (ht : t < 64) (hI : Inv N t K z g gm a) : StepOK N t (lcmp cx cm) := by
  subst hx hm
  have hzb := hI.zb
  refine ⟨((kE c K z, z + 1, sA g 12 j (gA g 12 j + 1)), sA (sI (sI gm 900 0 0) 900 0 cd) 1 j (gA gm 1 j + 1)), ?_, a, hI.ref j hj (fun q hq => by rw [kE_no3 hc]) h394 ht (by show z ≤ z + 1; omega) (by show z + 1 ≤ _; omega)⟩
  unfold lcmp m_thrown
  rw [obind_some, obind_some, obind_some]
  dsimp only
  rw [show gI (sA (sI (sI gm 900 0 0) 900 0 cd) 1 j (gA gm 1 j + 1)) 900 0 = cd by rw [gI_sA, gI_sI, if_pos ⟨rfl, rfl⟩], if_pos rfl, if_pos (by rcases h1 with h1 | h1 <;> subst h1 <;> decide)]
theorem st_rL {c j : Nat} {cd : Int} (hx : cx = some (cd, (kE c K z, z + 1, sA g 12 j (gA g 12 j + 1)))) (hm : cm = some (w, sA (sI (sI gm 900 0 0) 900 0 cd) 1 j (gA gm 1 j + 1))) (hc : c ≠ 3) (hj : j < 3) (h1 : cd = 1 ∨ cd = 2) (h394 : 394 ≤ z) (ht : t < 64) (hI : Inv N t K z g gm a) : StepOK N t (lcmpL cx cm) := by
  subst hx hm
  have hzb := hI.zb
  refine ⟨((kE c K z, z + 1, sA g 12 j (gA g 12 j + 1)), sA (sI (sI gm 900 0 0) 900 0 cd) 1 j (gA gm 1 j + 1)), ?_, a, hI.ref j hj (fun q hq => by rw [kE_no3 hc]) h394 ht (by show z ≤ z + 1; omega) (by show z + 1 ≤ _; omega)⟩
  unfold lcmpL m_thrown
  rw [obind_some, obind_some, obind_some]
  dsimp only
  rw [show gI (sA (sI (sI gm 900 0 0) 900 0 cd) 1 j (gA gm 1 j + 1)) 900 0 = cd by rw [gI_sA, gI_sI, if_pos ⟨rfl, rfl⟩], if_pos rfl, if_pos (by rcases h1 with h1 | h1 <;> subst h1 <;> decide)]
/-- what is checked ahead -/
theorem x_within_ok {l1 l2 l3 : Int} (h1 : w32 l2 ≤ w32 l1) (h2 : w32 l1 ≤ w32 l3) : x_within g l1 l2 l3 = some (.inr g) := by
  unfold x_within
  rw [if_neg (by omega), if_neg (by omega)]
theorem x_within_no {l1 l2 l3 : Int} (h : ¬(w32 l2 ≤ w32 l1 ∧ w32 l1 ≤ w32 l3)) : x_within g l1 l2 l3 = some (.inl (1, sA g 12 1 (gA g 12 1 + 1))) := by
  have e : x_within_j11 g = some (.inl (1, sA g 12 1 (gA g 12 1 + 1))) := by
    unfold x_within_j11
    rw [rdA_atv (i := 1) (k := 1) rfl rfl (by omega) (by omega), obind_some, wrA_at (i := 1) 1 rfl (by omega) (by omega), obind_some]
  unfold x_within
  by_cases h1 : w32 l1 < w32 l2
  · rw [if_pos h1, e]
  · rw [if_neg h1, if_pos (by omega), e]
theorem x_isThere_ok {l1 l2 : Int} (h1 : 0 ≤ w32 l1) (h2 : w32 l1 < w32 l2) : x_isThere g l1 l2 = some (.inr g) := by
  unfold x_isThere
  rw [if_neg (by omega), if_neg (by omega)]
theorem x_isThere_no {l1 l2 : Int} (h : ¬(0 ≤ w32 l1 ∧ w32 l1 < w32 l2)) : x_isThere g l1 l2 = some (.inl (0, sA g 12 0 (gA g 12 0 + 1))) := by
  have e : x_isThere_j10 g = some (.inl (0, sA g 12 0 (gA g 12 0 + 1))) := by
    unfold x_isThere_j10
    rw [rdA_atv (i := 0) (k := 0) rfl rfl (by omega) (by omega), obind_some, wrA_at (i := 0) 0 rfl (by omega) (by omega), obind_some]
  unfold x_isThere
  by_cases h1 : w32 l1 < 0
  · rw [if_pos h1, e]
  · rw [if_neg h1, if_pos (by omega), e]
theorem m_within_eq {l1 l2 l3 : Int} : m_within l1 l2 l3 = some (if w32 l2 ≤ w32 l1 ∧ w32 l1 ≤ w32 l3 then 1 else 0) := by
  unfold m_within
  by_cases h1 : w32 l1 < w32 l2
  · rw [if_pos h1, if_neg (by omega)]
  · rw [if_neg h1]
    by_cases h2 : w32 l3 < w32 l1
    · rw [if_pos h2, if_neg (by omega)]
    · rw [if_neg h2, if_pos (by omega)]
theorem m_may_ok {c : Int} {k : Int} (h : gI gm 900 0 = 0) : m_may gm 1 c k = some (1, gm) := by
  unfold m_may m_may_j26
  rw [if_pos (by decide), h, if_neg (by decide)]
theorem m_may_no {c : Int} {k : Nat} (h : gI gm 900 0 = 0) (hk : k < 3) (hc : c = 1 ∨ c = 2) : m_may gm 0 c k = some (0, sA (sI gm 900 0 c) 1 k (gA gm 1 k + 1)) := by
  unfold m_may
  rw [if_neg (by decide), h, if_neg (by decide), rdA_nat (by omega) (by omega), obind_some, wrA_nat (by omega) (by omega), obind_some]
  unfold m_may_j26
  rw [show gI (sA (sI gm 900 0 c) 1 k (gA (sI gm 900 0 c) 1 k + 1)) 900 0 = c by rw [gI_sA, gI_sI, if_pos ⟨rfl, rfl⟩], if_pos (by rcases hc with h1 | h1 <;> subst h1 <;> decide)]
  rfl
