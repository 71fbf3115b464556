set_option maxRecDepth 100000
/-! PLAIN 14: what is told -/
variable {N : Nat} {K : Nat → Nat} {t z : Nat} {g gm g1 gm1 : GS} {a1 a2 a3 a4 a5 a6 v w : Int} {a : Ab}
theorem m_may_no0 {c : Int} (h : gI gm 900 0 = 0) (hc : c = 1 ∨ c = 2) : m_may gm 0 c 0 = some (0, sA (sI gm 900 0 c) 1 0 (gA gm 1 0 + 1)) := m_may_no (k := 0) h (by omega) hc
theorem m_may_no1 {c : Int} (h : gI gm 900 0 = 0) (hc : c = 1 ∨ c = 2) : m_may gm 0 c 1 = some (0, sA (sI gm 900 0 c) 1 1 (gA gm 1 1 + 1)) := m_may_no (k := 1) h (by omega) hc
theorem m_may_no2 {c : Int} (h : gI gm 900 0 = 0) (hc : c = 1 ∨ c = 2) : m_may gm 0 c 2 = some (0, sA (sI gm 900 0 c) 1 2 (gA gm 1 2 + 1)) := m_may_no (k := 2) h (by omega) hc
theorem wz0 : ¬¬w32 0 = 0 := by decide
theorem wz1 : ¬w32 1 = 0 := by decide
theorem th0 : gI (sI gm 900 0 0) 900 0 = 0 := by simp [gI_sI]
theorem MSame.th : MSame gm (sI gm 900 0 0) := ⟨⟨fun f hf => by rw [gI_sI, if_neg (by omega)], fun _ _ _ => rfl⟩, fun _ => rfl⟩
theorem mrd_th {rd : Rd} (h : MRd gm rd) : MRd (sI gm 900 0 0) rd := h.sI (by omega)
theorem XSame.out (h : XSame z g g1) : XSame z g (sA g1 393 0 v) := ⟨⟨h.1.1, h.1.2.1, fun q k h1 h2 h3 h4 => by rw [gA_sA, if_neg (by omega)]; exact h.1.2.2.1 q k h1 h2 h3 h4, h.1.2.2.2⟩, fun k => by rw [gA_sA, if_neg (by omega)]; exact h.2 k⟩
theorem Inv.val (h : Inv N t K z g gm a) (hx : XSame z g g1) (hm : MSame gm gm1) (h394 : 394 ≤ z) : Inv N (t + 1) K z (sA g1 393 0 v) gm1 a := h.same hx.out hm (fun _ _ => rfl) h394 (Nat.le_refl _) (by have := h.zb; omega)
theorem Inv.val0 (h : Inv N t K z g gm a) (hx : XSame z g g1) (hm : MSame gm gm1) (h394 : 394 ≤ z) : Inv N (t + 1) K z g1 gm1 a := h.same hx hm (fun _ _ => rfl) h394 (Nat.le_refl _) (by have := h.zb; omega)
theorem s_told (h : Inv N t K z g gm a) (h394 : 394 ≤ z) (ht : t < 64) (e1 : w32 a1 = a1) : StepOK N t (lc_6 N K z g gm a1 a2 a3 a4 a5 a6) := by
  have hP := h.ok.P
  by_cases hc : 0 ≤ a1 ∧ a1 ≤ 8
  · have hm0 : ∀ w : Int, (∀ (g2 : GS), g2 = sI gm 900 0 0 → m_told gm a1 = some (w, g2)) → m_told gm a1 = some (w, sI gm 900 0 0) := fun w q => q _ rfl
    have key : ∀ v : Int, x_told K g a1 = some (.inr (v, g)) → m_told gm a1 = some (v, sI gm 900 0 0) → StepOK N t (lc_6 N K z g gm a1 a2 a3 a4 a5 a6) := fun v q1 q2 => o_told_v q1 q2 th0 rfl (h.val .refl .th h394)
    have r0 := rdR_of h.r12 h.kr
    have X := x_within_ok (g := g) (l1 := a1) (l2 := 0) (l3 := 8) (by rw [e1, w32_z]; omega) (by rw [e1, w32_of (by omega) (by omega)]; omega)
    have Y := m_within_eq (l1 := a1) (l2 := 0) (l3 := 8)
    rw [e1, w32_z, w32_of (by omega) (by omega), if_pos hc] at Y
    have Z := m_may_ok (gm := sI gm 900 0 0) (c := 1) (k := 1) th0
    have mr := (mrd_th h.mr)
    have c0 : a1 = 0 ∨ a1 = 1 ∨ a1 = 2 ∨ a1 = 3 ∨ a1 = 4 ∨ a1 = 5 ∨ a1 = 6 ∨ a1 = 7 ∨ a1 = 8 := by omega
    have s0 : rdA (sI gm 900 0 0) 18 5 0 = some a.rd.load := rdA_atv (i := 0) (k := 0) mr.load rfl (by omega) (by omega)
    have s1 : rdA (sI gm 900 0 0) 18 5 1 = some a.rd.stops := rdA_atv (i := 1) (k := 1) mr.stops rfl (by omega) (by omega)
    have b1 : gI (sI gm 900 0 0) 949 0 = a.p.n := by rw [gI_sI, if_neg (by omega)]; exact h.mp.n
    have b2 : gI (sI gm 900 0 0) 950 0 = gI gm 950 0 := by rw [gI_sI, if_neg (by omega)]
    rcases c0 with q | q | q | q | q | q | q | q | q <;> subst q
    · exact key a.rd.P (by simp (disch := omega) [w32_of, bit_at, rdA_nat, wrA_nat, obind_some, outR_eq, x_told, X, thT, r0, h.xr.P]) (by simp (disch := omega) [w32_of, bit_at, rdA_nat, wrA_nat, obind_some, outR_eq, m_told, Y, Z, mr.P])
    · exact key a.rd.D (by simp (disch := omega) [w32_of, bit_at, rdA_nat, wrA_nat, obind_some, outR_eq, x_told, X, thT, r0, h.xr.D]) (by simp (disch := omega) [w32_of, bit_at, rdA_nat, wrA_nat, obind_some, outR_eq, m_told, Y, Z, mr.D])
    · exact key a.rd.B (by simp (disch := omega) [w32_of, bit_at, rdA_nat, wrA_nat, obind_some, outR_eq, x_told, X, thT, r0, h.xr.B]) (by simp (disch := omega) [w32_of, bit_at, rdA_nat, wrA_nat, obind_some, outR_eq, m_told, Y, Z, mr.B])
    · exact key a.rd.U (by simp (disch := omega) [w32_of, bit_at, rdA_nat, wrA_nat, obind_some, outR_eq, x_told, X, thT, r0, h.xr.U]) (by simp (disch := omega) [w32_of, bit_at, rdA_nat, wrA_nat, obind_some, outR_eq, m_told, Y, Z, mr.U])
    · exact key a.rd.C (by simp (disch := omega) [w32_of, bit_at, rdA_nat, wrA_nat, obind_some, outR_eq, x_told, X, thT, r0, h.xr.C]) (by simp (disch := omega) [w32_of, bit_at, rdA_nat, wrA_nat, obind_some, outR_eq, m_told, Y, Z, mr.C])
    · exact key a.p.n (by simp (disch := omega) [w32_of, bit_at, rdA_nat, wrA_nat, obind_some, outR_eq, x_told, X, thT, r0, h.xp.n]) (by simp (disch := omega) [w32_of, bit_at, rdA_nat, wrA_nat, obind_some, outR_eq, m_told, Y, Z, b1])
    · exact key (gI gm 950 0) (by simp (disch := omega) [w32_of, bit_at, rdA_nat, wrA_nat, obind_some, outR_eq, x_told, X, thT, r0, h.bk]) (by simp (disch := omega) [w32_of, bit_at, rdA_nat, wrA_nat, obind_some, outR_eq, m_told, Y, Z, b2])
    · exact key a.rd.load (by simp (disch := omega) [w32_of, bit_at, rdA_nat, wrA_nat, obind_some, outR_eq, x_told, X, thT, r0, h.xr.load]) (by simp (disch := omega) [w32_of, bit_at, rdA_nat, wrA_nat, obind_some, outR_eq, m_told, Y, Z, s0])
    · exact key a.rd.stops (by simp (disch := omega) [w32_of, bit_at, rdA_nat, wrA_nat, obind_some, outR_eq, x_told, X, thT, r0, h.xr.stops]) (by simp (disch := omega) [w32_of, bit_at, rdA_nat, wrA_nat, obind_some, outR_eq, m_told, Y, Z, s1])
  · refine o_told_r1 (w := 0) ?_ ?_ h394 ht h
    · unfold x_told
      rw [x_within_no (by rw [e1, w32_z, w32_of (by omega) (by omega)]; exact hc)]
      rfl
    · unfold m_told
      rw [m_within_eq, e1, w32_z, w32_of (by omega) (by omega), if_neg hc, obind_some, m_may_no1 th0 (by omega), obind_some, if_neg wz0]
      rfl
theorem x_deedOf_ok {d : Nat} (h : Inv N t K z g gm a) (hd : d < a.rd.D) : x_deedOf K g d = some (.inr g) := by
  have hD := h.ok.D
  unfold x_deedOf
  rw [rdR_of h.r12 h.kr, obind_some, x_isThere_ok (by rw [w32_of (by omega) (by omega)]; omega) (by rw [h.xr.D, w32_of (by omega) (by omega), w32_of (by omega) (by omega)]; omega)]
  rfl
theorem x_deedOf_no {d : Int} (h : Inv N t K z g gm a) (e : w32 d = d) (hd : ¬(0 ≤ d ∧ d < a.rd.D)) : x_deedOf K g d = some (.inl (0, sA g 12 0 (gA g 12 0 + 1))) := by
  have hD := h.ok.D
  unfold x_deedOf
  rw [rdR_of h.r12 h.kr, obind_some, x_isThere_no (by rw [e, h.xr.D, w32_of (a := (a.rd.D : Int)) (by omega) (by omega)]; exact hd)]
  rfl
theorem x_personOf_ok {d : Nat} (h : Inv N t K z g gm a) (hd : d < a.rd.P) : x_personOf K g d = some (.inr g) := by
  have hD := h.ok.P
  unfold x_personOf
  rw [rdR_of h.r12 h.kr, obind_some, x_isThere_ok (by rw [w32_of (by omega) (by omega)]; omega) (by rw [h.xr.P, w32_of (by omega) (by omega), w32_of (by omega) (by omega)]; omega)]
  rfl
theorem x_personOf_no {d : Int} (h : Inv N t K z g gm a) (e : w32 d = d) (hd : ¬(0 ≤ d ∧ d < a.rd.P)) : x_personOf K g d = some (.inl (0, sA g 12 0 (gA g 12 0 + 1))) := by
  have hD := h.ok.P
  unfold x_personOf
  rw [rdR_of h.r12 h.kr, obind_some, x_isThere_no (by rw [e, h.xr.P, w32_of (a := (a.rd.P : Int)) (by omega) (by omega)]; exact hd)]
  rfl
theorem x_lineOf_ok {d : Nat} (h : Inv N t K z g gm a) (hd : d < a.p.n) : x_lineOf g d = some (.inr g) := by
  have hD := h.pok.n
  unfold x_lineOf
  rw [x_isThere_ok (by rw [w32_of (by omega) (by omega)]; omega) (by rw [h.xp.n, w32_of (by omega) (by omega), w32_of (by omega) (by omega)]; omega)]
  rfl
theorem x_lineOf_no {d : Int} (h : Inv N t K z g gm a) (e : w32 d = d) (hd : ¬(0 ≤ d ∧ d < a.p.n)) : x_lineOf g d = some (.inl (0, sA g 12 0 (gA g 12 0 + 1))) := by
  have hD := h.pok.n
  unfold x_lineOf
  rw [x_isThere_no (by rw [e, h.xp.n, w32_of (a := (a.p.n : Int)) (by omega) (by omega)]; exact hd)]
  rfl
theorem m_isDeed_ok {d : Nat} (h : Inv N t K z g gm a) (hd : d < a.rd.D) : m_isDeed (sI gm 900 0 0) d 1 = some (1, sI gm 900 0 0) := by
  have hD := h.ok.D
  unfold m_isDeed
  rw [(mrd_th h.mr).D, m_within_eq, w32_z, w32_of (by omega) (by omega), w32_of (by omega) (by omega), if_pos (by omega), obind_some, m_may_ok th0, obind_some]
  rfl
theorem m_isDeed_no {d : Int} (h : Inv N t K z g gm a) (e : w32 d = d) (hd : ¬(0 ≤ d ∧ d < a.rd.D)) : m_isDeed (sI gm 900 0 0) d 1 = some (0, sA (sI (sI gm 900 0 0) 900 0 1) 1 0 (gA gm 1 0 + 1)) := by
  have hD := h.ok.D
  unfold m_isDeed
  rw [(mrd_th h.mr).D, m_within_eq, e, w32_z, w32_of (by omega) (by omega), if_neg (by omega), obind_some, m_may_no0 th0 (by omega), obind_some]
  rfl
theorem m_isPerson_ok {d : Nat} (h : Inv N t K z g gm a) (hd : d < a.rd.P) : m_isPerson (sI gm 900 0 0) d 1 = some (1, sI gm 900 0 0) := by
  have hD := h.ok.P
  unfold m_isPerson
  rw [(mrd_th h.mr).P, m_within_eq, w32_z, w32_of (by omega) (by omega), w32_of (by omega) (by omega), if_pos (by omega), obind_some, m_may_ok th0, obind_some]
  rfl
theorem m_isPerson_no {d : Int} (h : Inv N t K z g gm a) (e : w32 d = d) (hd : ¬(0 ≤ d ∧ d < a.rd.P)) : m_isPerson (sI gm 900 0 0) d 1 = some (0, sA (sI (sI gm 900 0 0) 900 0 1) 1 0 (gA gm 1 0 + 1)) := by
  have hD := h.ok.P
  unfold m_isPerson
  rw [(mrd_th h.mr).P, m_within_eq, e, w32_z, w32_of (by omega) (by omega), if_neg (by omega), obind_some, m_may_no0 th0 (by omega), obind_some]
  rfl
theorem m_isNut_ok {d : Nat} (h : Inv N t K z g gm a) (hd : d < a.rd.U) : m_isNut (sI gm 900 0 0) d 1 = some (1, sI gm 900 0 0) := by
  have hD := h.ok.U
  unfold m_isNut
  rw [(mrd_th h.mr).U, m_within_eq, w32_z, w32_of (by omega) (by omega), w32_of (by omega) (by omega), if_pos (by omega), obind_some, m_may_ok th0, obind_some]
  rfl
theorem m_isNut_no {d : Int} (h : Inv N t K z g gm a) (e : w32 d = d) (hd : ¬(0 ≤ d ∧ d < a.rd.U)) : m_isNut (sI gm 900 0 0) d 1 = some (0, sA (sI (sI gm 900 0 0) 900 0 1) 1 0 (gA gm 1 0 + 1)) := by
  have hD := h.ok.U
  unfold m_isNut
  rw [(mrd_th h.mr).U, m_within_eq, e, w32_z, w32_of (by omega) (by omega), if_neg (by omega), obind_some, m_may_no0 th0 (by omega), obind_some]
  rfl
theorem mpn (h : Inv N t K z g gm a) : gI (sI gm 900 0 0) 949 0 = a.p.n := by rw [gI_sI, if_neg (by omega)]; exact h.mp.n
theorem m_isLine_ok {d : Nat} (h : Inv N t K z g gm a) (hd : d < a.p.n) : m_isLine (sI gm 900 0 0) d 1 = some (1, sI gm 900 0 0) := by
  have hD := h.pok.n
  unfold m_isLine
  rw [mpn h, m_within_eq, w32_z, w32_of (by omega) (by omega), w32_of (by omega) (by omega), if_pos (by omega), obind_some, m_may_ok th0, obind_some]
  rfl
theorem m_isLine_no {d : Int} (h : Inv N t K z g gm a) (e : w32 d = d) (hd : ¬(0 ≤ d ∧ d < a.p.n)) : m_isLine (sI gm 900 0 0) d 1 = some (0, sA (sI (sI gm 900 0 0) 900 0 1) 1 0 (gA gm 1 0 + 1)) := by
  have hD := h.pok.n
  unfold m_isLine
  rw [mpn h, m_within_eq, e, w32_z, w32_of (by omega) (by omega), if_neg (by omega), obind_some, m_may_no0 th0 (by omega), obind_some]
  rfl
theorem nat_of {x : Int} (h : 0 ≤ x) : ∃ n : Nat, x = n := ⟨x.toNat, by omega⟩
theorem s_strong (h : Inv N t K z g gm a) (h394 : 394 ≤ z) (ht : t < 64) (e1 : w32 a1 = a1) : StepOK N t (lc_8 N K z g gm a1 a2 a3 a4 a5 a6) := by
  have hP := h.ok.P
  by_cases hc : 0 ≤ a1 ∧ a1 < a.rd.P
  · obtain ⟨p, rfl⟩ := nat_of hc.1
    have hp : p < a.rd.P := by omega
    refine o_strong_v (v := a.rd.st p) (w := a.rd.st p) (g1 := g) (gm1 := sI gm 900 0 0) ?_ ?_ th0 rfl (h.val .refl .th h394)
    · unfold x_strong
      rw [x_personOf_ok h hp, obind_some]
      dsimp only [thT]
      rw [rdR_of h.r12 h.kr, obind_some, rdA_val (h.xr.st p hp) (by omega) (by omega), obind_some]
    · unfold m_strong
      rw [m_isPerson_ok h hp, obind_some, if_pos wz1, rdA_val ((mrd_th h.mr).st p hp) (by omega) (by omega), obind_some]
  · refine o_strong_r0 (w := 0) ?_ ?_ h394 ht h
    · unfold x_strong
      rw [x_personOf_no h e1 hc]
      rfl
    · unfold m_strong
      rw [m_isPerson_no h e1 hc, obind_some, if_neg wz0]
theorem s_bears (h : Inv N t K z g gm a) (h394 : 394 ≤ z) (ht : t < 64) (e1 : w32 a1 = a1) : StepOK N t (lc_9 N K z g gm a1 a2 a3 a4 a5 a6) := by
  by_cases hc : 0 ≤ a1 ∧ a1 ≤ 59
  · obtain ⟨p, rfl⟩ := nat_of hc.1
    have hp : p < 60 := by omega
    refine o_bears_v (v := a.rd.be p) (w := a.rd.be p) (g1 := g) (gm1 := sI gm 900 0 0) ?_ ?_ th0 rfl (h.val .refl .th h394)
    · unfold x_bears
      rw [x_within_ok (by rw [e1, w32_z]; omega) (by rw [e1, w32_of (by omega) (by omega)]; omega), obind_some]
      dsimp only [thT]
      rw [rdR_of h.r12 h.kr, obind_some, rdA_val (h.xr.be p hp) (by omega) (by omega), obind_some]
    · unfold m_bears
      rw [m_within_eq, e1, w32_z, w32_of (by omega) (by omega), if_pos hc, obind_some, m_may_ok th0, obind_some, if_pos wz1, rdA_val ((mrd_th h.mr).be p hp) (by omega) (by omega), obind_some]
  · refine o_bears_r1 (w := 0) ?_ ?_ h394 ht h
    · unfold x_bears
      rw [x_within_no (by rw [e1, w32_z, w32_of (by omega) (by omega)]; exact hc)]
      rfl
    · unfold m_bears
      rw [m_within_eq, e1, w32_z, w32_of (by omega) (by omega), if_neg hc, obind_some, m_may_no1 th0 (by omega), obind_some, if_neg wz0]
      rfl
