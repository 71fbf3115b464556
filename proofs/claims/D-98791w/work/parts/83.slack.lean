set_option maxRecDepth 100000
/-! PLAIN 24: the umbrella; slack -/
variable {N : Nat} {K : Nat → Nat} {t z r o : Nat} {g gm g1 gm1 : GS} {a1 a2 a3 a4 a5 a6 v w : Int} {a : Ab} {rd : Rd} {lw : Int → Int → Int → Int → Int → Int → Int} {s : Wt} {p : Pl}
def umS (we : Nat → Int) : Nat → Int
  | 0 => -1
  | i + 1 => if we i ≤ (if umS we i = -1 then 0 else we (umS we i).toNat) then umS we i else i
theorem umS_bd (we : Nat → Int) : ∀ i, -1 ≤ umS we i ∧ umS we i < i
  | 0 => by simp [umS]
  | i + 1 => by
    have := umS_bd we i
    rw [umS]
    generalize umS we i = x at this ⊢
    split <;> omega
theorem s_umbrella (hN : 100000000000000000000 ≤ N) (h : Inv N t K z g gm a) (h394 : 394 ≤ z) : StepOK N t (lc_16 N K z g gm a1 a2 a3 a4 a5 a6) := by
  have hP := h.ok.P
  have hr0 := h.r0
  obtain ⟨gx, gm1, s, s', x1, m1, x2, m2, e, b, l, x3, m3⟩ := gone_eq hN h
  have hwe : ∀ i, i < 4 → 0 ≤ s.we i ∧ s.we i ≤ 3600 := b.we
  have xr := x3.xr h.xr (by omega)
  have r12 : gI gx 12 0 = a.r := by rw [x3.1 _ _ (by omega)]; exact h.r12
  have hx : x_umbrella N K g = some (umS s.we a.rd.P, gx) := by
    unfold x_umbrella
    rw [x1, obind_some]
    refine loop_up' (N := N) (fun i => (umS s.we i, (i : Int))) a.rd.P _ rfl (fun i hi => ?_) ?_ (by omega)
    · have hb := umS_bd s.we i
      have hw := hwe i (by omega)
      unfold x_umbrella_b9 x_umbrella_j47
      dsimp only
      rw [rdR_of r12 h.kr, obind_some, xr.P, w32_of (by omega) (by omega), w32_of (by omega) (by omega), if_neg (by omega), rdA_val (x2.we i (by omega)) (by omega) (by omega), obind_some, w32_of (by omega) (by omega), w32_m1, umS]
      by_cases c : umS s.we i = -1
      · rw [if_neg (by omega), if_pos c, w32_z, w32_of (by omega) (by omega)]
        split <;> rfl
      · obtain ⟨u, hu⟩ := nat_of (x := umS s.we i) (by omega)
        have hw2 := hwe u (by omega)
        rw [if_pos c, if_neg c, hu, rdA_val (x2.we u (by omega)) (by omega) (by omega), obind_some, show ((u : Int)).toNat = u from rfl, w32_of (by omega) (by omega), w32_of (by omega) (by omega)]
        split <;> rfl
    · unfold x_umbrella_b9
      dsimp only
      rw [rdR_of r12 h.kr, obind_some, xr.P, if_pos (by omega)]; rfl
  have hm : m_umbrella N gm = some (umS s.we a.rd.P, gm1) := by
    have mr := m3.mr (mrd_th h.mr)
    unfold m_umbrella
    rw [m1, obind_some]
    refine loop_up' (N := N) (fun i => (umS s.we i, (if umS s.we i = -1 then 0 else s.we (umS s.we i).toNat), (i : Int))) a.rd.P _ rfl (fun i hi => ?_) ?_ (by omega)
    · have hb := umS_bd s.we i
      have hw := hwe i (by omega)
      have q : gA gm1 33 i = s.we i := by rw [m2.we i (by omega), e.we]
      have hmo : 0 ≤ (if umS s.we i = -1 then 0 else s.we (umS s.we i).toNat) ∧ (if umS s.we i = -1 then 0 else s.we (umS s.we i).toNat) ≤ 3600 := by
        split
        · omega
        · exact hwe _ (by omega)
      unfold m_umbrella_b17
      dsimp only
      rw [mr.P, w32_of (by omega) (by omega), w32_of (by omega) (by omega), if_neg (by omega), rdA_val q (by omega) (by omega), obind_some, obind_some, w32_of (by omega) (by omega), w32_of (by omega) (by omega), umS]
      by_cases c : s.we i ≤ (if umS s.we i = -1 then 0 else s.we (umS s.we i).toNat)
      · rw [if_neg (by omega), if_pos c]; rfl
      · rw [if_pos (by omega), if_neg c, if_neg (by omega), show ((i : Int)).toNat = i from rfl]; rfl
    · unfold m_umbrella_b17
      dsimp only
      rw [mr.P, if_pos (by omega)]; rfl
  refine ⟨((K, z, gx), gm1), ?_, a, h.val0 x3.xs ((MSame.th).trans m3.ms) h394⟩
  unfold lc_16
  rw [hx, hm, obind_some, obind_some]
  dsimp only
  rw [if_pos rfl]
theorem xPlan_lineOf_eq (hN : 100000000000000000000 ≤ N) (hp : PlOK rd p) (ok : RdOK rd) {q : Nat} (h : XPl q g p) {d : Nat} (hd : d < rd.D) : (∃ k, k < p.n ∧ p.de k = d ∧ xPlan_lineOf N q g d = some (k : Int)) ∨ ((∀ k, k < p.n → p.de k ≠ d) ∧ xPlan_lineOf N q g d = some (-1)) := by
  have hn := hp.n
  have hD := ok.D
  by_cases e : ∃ k, k < p.n ∧ p.de k = d
  · obtain ⟨k, h1, h2⟩ := e
    refine Or.inl ⟨k, h1, h2, ?_⟩
    unfold xPlan_lineOf
    refine loop_up' (N := N) (fun i => (i : Int)) k _ rfl (fun i hi => ?_) ?_ (by omega)
    · have hde := hp.de i (by omega)
      have hne := hp.di i k hi h1
      unfold xPlan_lineOf_b2
      rw [h.n, w32_of (by omega) (by omega), w32_of (by omega) (by omega), if_neg (by omega), rdA_val (h.de i (by omega)) (by omega) (by omega), obind_some, w32_of (by omega) (by omega), w32_of (by omega) (by omega), if_pos (by omega)]
      rfl
    · unfold xPlan_lineOf_b2
      rw [h.n, w32_of (by omega) (by omega), w32_of (by omega) (by omega), if_neg (by omega), rdA_val (h.de k h1) (by omega) (by omega), obind_some, h2, if_neg (by omega)]
      rfl
  · refine Or.inr ⟨fun k h1 h2 => e ⟨k, h1, h2⟩, ?_⟩
    unfold xPlan_lineOf
    refine loop_up' (N := N) (fun i => (i : Int)) p.n _ rfl (fun i hi => ?_) ?_ (by omega)
    · have hde := hp.de i hi
      unfold xPlan_lineOf_b2
      rw [h.n, w32_of (by omega) (by omega), w32_of (by omega) (by omega), if_neg (by omega), rdA_val (h.de i hi) (by omega) (by omega), obind_some, w32_of (by omega) (by omega), w32_of (by omega) (by omega), if_pos (fun q => e ⟨i, hi, by omega⟩)]
      rfl
    · unfold xPlan_lineOf_b2
      rw [h.n, if_pos (by omega)]
      rfl
def MFs (g g' : GS) : Prop := (∀ f q, f ≠ 958 → f ≠ 968 → gI g' f q = gI g f q) ∧ ∀ a k, a ≠ 23 → a ≠ 24 → (a < 29 ∨ 35 < a) → gA g' a k = gA g a k
theorem MFr.fs {g' : GS} (h : MFr g g') : MFs g g' := ⟨h.1, fun a k h1 h2 h3 => h.2 a k h1 h2 (by omega)⟩
theorem MFs.trans {g1 g2 : GS} (h1 : MFs g g1) (h2 : MFs g1 g2) : MFs g g2 := ⟨fun f q a b => (h2.1 f q a b).trans (h1.1 f q a b), fun q k a b c => (h2.2 q k a b c).trans (h1.2 q k a b c)⟩
theorem MFs.up {g' : GS} {k : Nat} {v : Int} (h : MFs g g') : MFs g (sA g' 35 k v) := ⟨h.1, fun a j h1 h2 h3 => by rw [gA_sA, if_neg (by omega)]; exact h.2 a j h1 h2 h3⟩
theorem MFs.mr {g' : GS} (h : MFs gm g') (hx : MRd gm rd) : MRd g' rd := hx.mono (fun f h1 h2 => h.1 f 0 (by omega) (by omega)) fun q k h1 h2 _ _ => h.2 q k (by omega) (by omega) (by omega)
theorem MFs.ml {g' : GS} (h : MFs gm g') (hx : MLw N gm lw) : MLw N g' lw := hx.mono (h.1 _ _ (by omega) (by omega)) (fun k => h.2 _ _ (by omega) (by omega) (by omega)) fun k => h.2 _ _ (by omega) (by omega) (by omega)
theorem MFs.mp {g' : GS} (h : MFs gm g') (hx : MPl gm p) : MPl g' p := hx.mono (h.1 _ _ (by omega) (by omega)) fun k => h.2 _ _ (by omega) (by omega) (by omega)
def mrS (d : Nat) (v : Int) : Nat → Int := fun e => if e = d then v else 0
/-- slack, on both sides -/
theorem slack_eq (hN : 100000000000000000000 ≤ N) (ok : RdOK rd) (hlw : lwOK lw) (hp : PlOK rd p) (r12 : gI g 12 0 = r) (xr : XRd r g rd) (hK : K r = 9) (xl : XLw K z g lw) (xp : XPl 3 g p) (hr : 22 ≤ r) (mr : MRd gm rd) (ml : MLw N gm lw) (mp : MPl gm p) (hm0 : ∀ d : Nat, d < 12 → gA gm 35 d = 0) {d : Nat} (hd : d < rd.D) : ∃ gx gm1 v, x_slackOf N K g d = some (v, gx) ∧ m_slackOf N gm d = some (v, gm1) ∧ -1 ≤ v ∧ v ≤ 99 ∧ WFr 14 g gx ∧ MFs gm gm1 ∧ ∀ d : Nat, d < 12 → gA gm1 35 d = 0 := by
  have hD := ok.D
  have hn := hp.n
  obtain ⟨gs, s1, s2, s3, s4⟩ := xWatch_starts_eq (N := N) (r := r) (o := 14) (g := g) (rd := rd) hN (gI gm 968 0)
  obtain ⟨gx, gm1, s, s', x1, m1, x2, m2, e, b, l, x3, m3⟩ := gone2 (N := N) (K := K) (z := z) (gm := gm) hN ok hlw hp (s2.xr xr (by omega)) hK (s2.xl xl) (xp.mono (s2.1 _ _ (by omega)) (fun k => s2.2.2 _ _ (by omega)) fun k => s2.2.2 _ _ (by omega)) hr mr ml mp mo0 hm0 (fun q => by cases q) s3
  have hg : x_gone N K g = some gx := by
    unfold x_gone
    rw [rdR_of r12 hK, obind_some, s1, obind_some, x1, obind_some]
  have F0 : WFr 14 g gx := s2.trans x3
  have tz : ∀ d : Nat, d < 12 → gA gm1 35 d = 0 := fun d hd => by rw [m3.2 _ _ (by omega) (by omega) (by omega)]; exact hm0 d hd
  have meo : gA gm1 32 d = s.eo d := by rw [m2.eo d (by omega), e.eo]
  have heo := b.eo d (by omega)
  have hsp := b.sp
  have M1 : m_goes N gm 0 = some (s'.sp, gm1) := m1
  have none_ : s.eo d = -1 → m_slackOf N gm d = some (-1, gm1) := by
    intro q
    unfold m_slackOf
    rw [M1, obind_some]
    dsimp only
    rw [rdA_val (meo.trans q) (by omega) (by omega), obind_some, if_neg (by decide)]
  have hxn : (xPlan_lineOf N 3 g d = some (-1) ∨ ∃ k : Nat, k < p.n ∧ xPlan_lineOf N 3 g d = some (k : Int) ∧ s.be k = -1) → x_slackOf N K g d = some (-1, gx) := by
    intro q
    unfold x_slackOf
    rcases q with q | ⟨k, k1, k2, k3⟩
    · rw [q, obind_some, hg, obind_some, if_pos (by decide)]
    · rw [k2, obind_some, hg, obind_some, w32_of (by omega) (by omega), w32_m1, if_neg (by omega), rdA_val ((x2.be k (by omega)).trans k3) (by omega) (by omega), obind_some, if_neg (by decide)]
  rcases xPlan_lineOf_eq (N := N) hN hp ok xp hd with ⟨k, k1, k2, k3⟩ | ⟨k1, k2⟩
  · rcases l.ln k k1 with ⟨q1, q2⟩ | ⟨q1, q2, q3⟩
    · rw [k2] at q2
      exact ⟨gx, gm1, -1, hxn (Or.inr ⟨k, k1, k3, q1⟩), none_ q2, by decide, by decide, F0, m3.fs, tz⟩
    · rw [k2] at q3
      have L := loop_two (B := fun q => x_slackOf_b40 N K d s.sp q.1 q.2) (C := fun q => m_slackOf_b27 N d s'.sp q.1 q.2) (fun i q u => q.2 = (i : Int) ∧ u.2 = (i : Int) ∧ WFr 14 g q.1 ∧ MFs gm u.1 ∧ ∀ e : Nat, e < 12 → gA u.1 35 e = mrS d ((i : Int) + 1) e) (fun e f => e.1 = f.2 ∧ 0 ≤ e.1 ∧ e.1 ≤ 99 ∧ WFr 14 g e.2 ∧ MFs gm f.1 ∧ ∀ e : Nat, e < 12 → e ≠ d → gA f.1 35 e = 0) 99 (fun i q u hi hI => by
        obtain ⟨gq, j⟩ := q
        obtain ⟨gu, j'⟩ := u
        obtain ⟨rfl, rfl, w1, w2, w3⟩ := hI
        dsimp only at w1 w2 w3
        by_cases e99 : i = 99
        · right
          subst e99
          refine ⟨(99, gq), (gu, 99), ?_, ?_, rfl, by dsimp only; omega, by dsimp only; omega, w1, w2, fun e he hne => by rw [w3 e he]; unfold mrS; rw [if_neg hne]⟩
          · unfold x_slackOf_b40
            dsimp only
            rw [if_pos (by decide)]; rfl
          · unfold m_slackOf_b27
            dsimp only
            rw [if_pos (by decide)]; rfl
        · obtain ⟨gs, t1, t2, t3, t4⟩ := xWatch_starts_eq (N := N) (r := r) (o := 14) (g := gq) (rd := rd) hN (gI gu 968 0)
          have F1 : WFr 14 gq (sI (sI gs 312 14 d) 313 14 ((i : Int) + 1)) := ⟨fun f q hf => by rw [gI_sI, if_neg (by omega), gI_sI, if_neg (by omega)]; exact t2.1 f q hf, fun f q h1 h2 => by rw [gI_sI, if_neg (by omega), gI_sI, if_neg (by omega)]; exact t2.2.1 f q h1 h2, fun q k hq => t2.2.2 q k hq⟩
          have XL : XW r 14 (sI (sI gs 312 14 d) 313 14 ((i : Int) + 1)) rd (mrS d ((i : Int) + 1)) false (st0 (gA gq (14 + 1)) (gA gq (14 + 2)) (gI gu 968 0)) := by
            have i12 : gI (sI (sI gs 312 14 d) 313 14 ((i : Int) + 1)) 312 14 = d := by rw [gI_sI, if_neg (by omega), gI_sI, if_pos ⟨rfl, rfl⟩]
            have i13 : gI (sI (sI gs 312 14 d) 313 14 ((i : Int) + 1)) 313 14 = (i : Int) + 1 := by rw [gI_sI, if_pos ⟨rfl, rfl⟩]
            refine XW.mk (by rw [gI_sI, if_neg (by omega), gI_sI, if_neg (by omega)]; exact t3.rr) t3.be t3.en t3.eo t3.fr t3.we t3.bu (by rw [gI_sI, if_neg (by omega), gI_sI, if_neg (by omega)]; exact t3.sp) (by rw [gI_sI, if_neg (by omega), gI_sI, if_neg (by omega)]; exact t3.ag) (fun q => by cases q) (by rw [gI_sI, if_neg (by omega), gI_sI, if_neg (by omega)]; exact t3.ls) (fun e he => ?_) ?_
            · rw [i12, i13]
              unfold mrS
              by_cases q : e = d
              · rw [if_pos q, if_pos (by omega)]
              · rw [if_neg q, if_neg (by omega)]
            · rw [i12]; omega
          have F2 := w1.trans F1
          obtain ⟨gx2, gm2, u, u', y1, n1, y2, n2, ee, bb, ll, y3, n3⟩ := gone2 (N := N) (K := K) (z := z) (gm := gu) hN ok hlw hp (F2.xr xr (by omega)) hK (F2.xl xl) (xp.mono (F2.1 _ _ (by omega)) (fun k => F2.2.2 _ _ (by omega)) fun k => F2.2.2 _ _ (by omega)) hr (w2.mr mr) (w2.ml ml) (w2.mp mp) (more := mrS d ((i : Int) + 1)) (fun e he => by unfold mrS; split <;> omega) w3 (fun q => by cases q) XL
          have N1 : m_goes N gu 0 = some (u'.sp, gm2) := n1
          have hus := bb.sp
          have i12' : gI gq 12 0 = r := by rw [w1.1 _ _ (by omega)]; exact r12
          have hsp2 : gI gx2 309 14 = u.sp := y2.sp
          have esp : u'.sp = u.sp := ee.sp.symm
          have esp0 : s'.sp = s.sp := e.sp.symm
          by_cases c : s.sp < u.sp
          · right
            refine ⟨((i : Int), gx2), (gm2, (i : Int)), ?_, ?_, rfl, by dsimp only; omega, by dsimp only; omega, F2.trans y3, w2.trans n3.fs, fun e he hne => by
              show gA gm2 35 e = 0
              rw [n3.2 _ _ (by omega) (by omega) (by omega), w3 e he]; unfold mrS; rw [if_neg hne]⟩
            · unfold x_slackOf_b40 xWatch_longer
              dsimp only
              rw [w32_of (by omega) (by omega), w32_of (by omega) (by omega), if_neg (by omega), rdR_of i12' hK, obind_some, t1, obind_some, obind_some, y1, obind_some, hsp2, w32_of (by omega) (by omega), w32_of (by omega) (by omega), if_pos c]; rfl
            · unfold m_slackOf_b27
              dsimp only
              rw [w32_of (by omega) (by omega), w32_of (by omega) (by omega), if_neg (by omega), N1, obind_some]
              dsimp only
              rw [esp, esp0, w32_of (by omega) (by omega), w32_of (by omega) (by omega), if_pos c]
          · left
            refine ⟨by omega, (gx2, (i : Int) + 1), (sA gm2 35 d ((i : Int) + 1 + 1), (i : Int) + 1), ?_, ?_, by dsimp only; omega, by dsimp only; omega, F2.trans y3, (w2.trans n3.fs).up, fun e he => ?_⟩
            · unfold x_slackOf_b40 xWatch_longer
              dsimp only
              rw [w32_of (by omega) (by omega), w32_of (by omega) (by omega), if_neg (by omega), rdR_of i12' hK, obind_some, t1, obind_some, obind_some, y1, obind_some, hsp2, w32_of (by omega) (by omega), w32_of (by omega) (by omega), if_neg c]
            · unfold m_slackOf_b27
              dsimp only
              rw [w32_of (by omega) (by omega), w32_of (by omega) (by omega), if_neg (by omega), N1, obind_some]
              dsimp only
              rw [esp, esp0, w32_of (by omega) (by omega), w32_of (by omega) (by omega), if_neg c, wrA_nat (by omega) (by omega), obind_some]
            · unfold mrS
              rw [gA_sA]
              by_cases q : e = d
              · rw [if_pos ⟨rfl, q⟩, if_pos q]; omega
              · rw [if_neg (fun q2 => q q2.2), if_neg q, n3.2 _ _ (by omega) (by omega) (by omega), w3 e he]
                unfold mrS
                rw [if_neg q]) N (gx, 0) (sA gm1 35 d 1, 0) ⟨rfl, rfl, F0, m3.fs.up, fun e he => by
          unfold mrS
          rw [gA_sA]
          by_cases q : e = d
          · rw [if_pos ⟨rfl, q⟩, if_pos q]; rfl
          · rw [if_neg (fun q2 => q q2.2), if_neg q]; exact tz e he⟩ (by omega)
      obtain ⟨⟨v, gx2⟩, ⟨gm2, v'⟩, z1, z2, z3, z4, z5, z6, z7, z8⟩ := L
      dsimp only at z3 z4 z5 z6 z7 z8
      subst z3
      refine ⟨gx2, sA gm2 35 d 0, v, ?_, ?_, by omega, z5, z6, z7.up, fun e he => ?_⟩
      · unfold x_slackOf
        rw [k3, obind_some, hg, obind_some, w32_of (by omega) (by omega), w32_m1, if_neg (by omega), rdA_val (x2.be k (by omega)) (by omega) (by omega), obind_some, w32_of (by omega) (by omega), if_pos (by omega), show gI gx 309 14 = s.sp from x2.sp]
        exact z1
      · unfold m_slackOf m_slackOf_j57
        rw [M1, obind_some]
        dsimp only
        rw [rdA_val meo (by omega) (by omega), obind_some, w32_of (by omega) (by omega), w32_m1, if_pos (by omega), wrA_nat (by omega) (by omega), obind_some, z2, obind_some]
        dsimp only
        rw [wrA_nat (by omega) (by omega), obind_some]
      · rw [gA_sA]
        by_cases q : e = d
        · rw [if_pos ⟨rfl, q⟩]
        · rw [if_neg (fun q2 => q q2.2)]; exact z8 e he q
  · have q : s.eo d = -1 := by
      rcases l.no d with q | ⟨k, q1, q2⟩
      · exact q
      · exact absurd q2 (k1 k q1)
    exact ⟨gx, gm1, -1, hxn (Or.inl k2), none_ q, by decide, by decide, F0, m3.fs, tz⟩
