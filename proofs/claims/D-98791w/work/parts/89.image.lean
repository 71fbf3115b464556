set_option maxRecDepth 100000
/-! PLAIN 30: images -/
variable {N : Nat} {K : Nat → Nat} {t t' z r o : Nat} {g gm g1 gm1 : GS} {a1 a2 a3 a4 a5 a6 v w : Int} {a : Ab} {rd : Rd} {p : Pl}
theorem k8 (hW : WFK K) {q : Nat} (hq : q < 3) : K (8 + q) = 50021 := by
  have e : ∀ q, q < 3 → kx0 (8 + q) = 50021 := by decide
  exact hW.at (8 + q) (e q hq) (by omega)
theorem ki (hW : WFK K) {q i : Nat} (hq : q < 3) (hi : i < 21) : K (161 + 63 * q + 3 * i) = 3 := by
  have e : ∀ q, q < 3 → ∀ i, i < 21 → kx0 (161 + 63 * q + 3 * i) = 3 := by decide
  exact hW.at _ (e q hq i hi) (by omega)
/-- where a plan lies -/
def plc (o : Nat) : Prop := o = 3 ∨ ∃ i, i < 83 ∧ o = 101 + 3 * i
theorem plc_other {o1 o2 : Nat} (h1 : plc o) (h2 : plc o2) (hne : o ≠ o2) (h : XPl o g p) : XPl o (asW g o1 o2) p := by
  refine asW_other hne ?_ h
  rcases h1 with q1 | ⟨i, i1, i2⟩ <;> rcases h2 with q2 | ⟨j, j1, j2⟩ <;> omega
theorem plc_b {i : Nat} (h : i < 20) : plc (101 + 3 * i) := Or.inr ⟨i, by omega, rfl⟩
theorem plc_i {q i : Nat} (hq : q < 3) (h : i < 21) : plc (161 + 63 * q + 3 * i) := Or.inr ⟨20 + 21 * q + i, by omega, by omega⟩
theorem copy_eq (hN : 100000000000000000000 ≤ N) {ρ : Type} {F : GS → ρ} {B : GS × Int → Option ((GS × Int) ⊕ ρ)} {src dst ds dd n : Nat} (hne : src ≠ dst) (hB : ∀ (gx : GS) (i : Nat), (∀ f j, gI gx f j = gI gm f j) → i < n → B (gx, (i : Int)) = some (.inl (sA gx dst (dd + i) (gA gx src (ds + i)), (i : Int) + 1))) (hB2 : ∀ gx : GS, (∀ f j, gI gx f j = gI gm f j) → B (gx, (n : Int)) = some (.inr (F gx))) (hn : n < 100000) : ∃ gx, loopN B N (gm, 0) = some (F gx) ∧ (∀ f j, gI gx f j = gI gm f j) ∧ ∀ b j, gA gx b j = if b = dst ∧ dd ≤ j ∧ j < dd + n then gA gm src (ds + (j - dd)) else gA gm b j := by
  have L : ∃ e, loopN B N (gm, 0) = some e ∧ ∃ gx, e = F gx ∧ (∀ f j, gI gx f j = gI gm f j) ∧ ∀ b j, gA gx b j = if b = dst ∧ dd ≤ j ∧ j < dd + n then gA gm src (ds + (j - dd)) else gA gm b j := by
   refine loop_ex (N := N) (fun i s => s.2 = (i : Int) ∧ (∀ f j, gI s.1 f j = gI gm f j) ∧ ∀ b j, gA s.1 b j = if b = dst ∧ dd ≤ j ∧ j < dd + i then gA gm src (ds + (j - dd)) else gA gm b j) n _ (fun i s hi hs => ?_) (fun s hs => ?_) ⟨rfl, fun _ _ => rfl, fun b j => by rw [if_neg (by omega)]⟩ (by omega)
   · obtain ⟨gx, j⟩ := s
     obtain ⟨rfl, q1, q2⟩ := hs
     dsimp only at q1 q2
     refine ⟨_, hB gx i q1 hi, rfl, q1, fun b j => ?_⟩
     have e0 : gA gx src (ds + i) = gA gm src (ds + i) := by rw [q2, if_neg (fun e => hne e.1)]
     rw [gA_sA, e0, q2]
     by_cases e : b = dst ∧ j = dd + i
     · rw [if_pos e, if_pos ⟨e.1, by omega, by omega⟩, e.2, show dd + i - dd = i by omega]
     · rw [if_neg e]
       by_cases e2 : b = dst ∧ dd ≤ j ∧ j < dd + i
       · rw [if_pos e2, if_pos ⟨e2.1, e2.2.1, by omega⟩]
       · rw [if_neg e2, if_neg (fun e4 => by
           by_cases e5 : j = dd + i
           · exact e ⟨e4.1, e5⟩
           · exact e2 ⟨e4.1, e4.2.1, by omega⟩)]
   · obtain ⟨gx, j⟩ := s
     obtain ⟨rfl, q1, q2⟩ := hs
     exact ⟨F gx, hB2 gx q1, gx, rfl, q1, q2⟩
  obtain ⟨e, h1, gx, rfl, h2, h3⟩ := L
  exact ⟨gx, h1, h2, h3⟩
theorem s_image (hN : 100000000000000000000 ≤ N) (hW : WFK K) (h : Inv N t K z g gm a) (h394 : 394 ≤ z) : StepOK N t (lc_45 N K z g gm a1 a2 a3 a4 a5 a6) := by
  have hth := h.th h394
  have hch := h.c20
  have hk3 := h.k3
  have hpn := h.pok.n
  by_cases hc : a.kp = 3
  · refine ⟨((K, z, g), sI gm 900 0 0), ?_, a, h.val0 .refl .th h394⟩
    unfold lc_45 x_image m_image
    rw [h.xk, hth.mk3, hc, if_neg (by decide), if_neg (by decide), obind_some, obind_some, if_pos rfl]
  · -- the watchless side
    have hq : a.kp < 3 := by omega
    obtain ⟨G, x1, x2, x3, x4, x5⟩ := loop_ex (N := N) (B := fun s => x_image_b12 N K s.1 s.2) (s := (g, 0)) (fun i s => s.2 = (i : Int) ∧ (∀ f q, f ≠ 202 → gI s.1 f q = gI g f q) ∧ (∀ q k, (q < 161 ∨ 350 ≤ q) → gA s.1 q k = gA g q k) ∧ (∀ o p, plc o → (∀ j, j < a.ch → o ≠ 161 + 63 * a.kp + 3 * j) → XPl o g p → XPl o s.1 p) ∧ ∀ j, j < i → XPl (161 + 63 * a.kp + 3 * j) s.1 (a.bf j)) a.ch (fun G => (∀ f q, f ≠ 202 → gI G f q = gI g f q) ∧ (∀ q k, (q < 161 ∨ 350 ≤ q) → gA G q k = gA g q k) ∧ (∀ o p, plc o → (∀ j, j < a.ch → o ≠ 161 + 63 * a.kp + 3 * j) → XPl o g p → XPl o G p) ∧ ∀ j, j < a.ch → XPl (161 + 63 * a.kp + 3 * j) G (a.bf j)) (fun i s hi hs => by
      obtain ⟨gx, j⟩ := s
      obtain ⟨rfl, q1, q2, q3, q4⟩ := hs
      dsimp only at q1 q2 q3 q4
      have hbo := h.bok i hi
      have hb : XPl (101 + 3 * i) gx (a.bf i) := q3 _ _ (plc_b (by omega)) (fun j hj => by omega) (h.xb i hi)
      refine ⟨(asW gx (101 + 3 * i) (161 + 63 * a.kp + 3 * i), ((i + 1 : Nat) : Int)), ?_, rfl, fun f q hf => by rw [asW_I, if_neg (fun e => hf e.1)]; exact q1 f q hf, fun q k hqk => by rw [asW_A (by omega) (by omega)]; exact q2 q k hqk, fun o p ho hno hp => plc_other ho (plc_i hq (by omega)) (hno i hi) (q3 o p ho hno hp), fun j hj => ?_⟩
      · unfold x_image_b12
        dsimp only
        rw [q1 _ _ (by omega), h.xc, w32_of (by omega) (by omega), w32_of (by omega) (by omega), if_neg (by omega), q1 _ _ (by omega), h.xk, show rdQ K gx 7 3 (a.kp : Int) 50021 = some (8 + a.kp) from rdQ_of hq (by omega) (by rw [q2 _ _ (by omega)]; exact h.b7 _ hq) (k8 hW hq), obind_some, show rdQ K gx (8 + a.kp) 21 (i : Int) 3 = some (161 + 63 * a.kp + 3 * i) from rdQ_of (by omega) (by omega) (by rw [q2 _ _ (by omega)]; exact h.b8 _ _ hq (by omega)) (ki hW hq (by omega)), obind_some, show rdQ K gx 6 20 (i : Int) 3 = some (101 + 3 * i) from rdQ_of (by omega) (by omega) (by rw [q2 _ _ (by omega)]; exact h.b6 _ (by omega)) (kb hW (by omega)), obind_some, xPlan_as_eq, obind_some]
        rfl
      · by_cases e : j = i
        · subst e; exact asW_pl hbo.n (by omega) hb
        · exact plc_other (plc_i hq (by omega)) (plc_i hq (by omega)) (by omega) (q4 j (by omega))) (fun s hs => by
      obtain ⟨gx, j⟩ := s
      obtain ⟨rfl, q1, q2, q3, q4⟩ := hs
      refine ⟨gx, ?_, q1, q2, q3, q4⟩
      unfold x_image_b12
      dsimp only
      rw [q1 _ _ (by omega), h.xc, if_pos (by omega)]) ⟨rfl, fun _ _ _ => rfl, fun _ _ _ => rfl, fun _ _ _ _ hp => hp, fun j hj => by omega⟩ (by omega)
    obtain ⟨X, hX⟩ : ∃ X, X = sI (sA (asW G 3 (161 + 63 * a.kp + 60)) 11 a.kp (a.ch : Int)) 17 0 ((a.kp : Int) + 1) := ⟨_, rfl⟩
    have xI : ∀ f q, f ≠ 202 → f ≠ 17 → gI X f q = gI g f q := fun f q h1 h2 => by subst hX; rw [gI_sI, if_neg (by omega), gI_sA, asW_I, if_neg (fun e => h1 e.1)]; exact x2 f q h1
    have xA : ∀ q k, q ≠ 11 → (q < 161 ∨ 350 ≤ q) → gA X q k = gA g q k := fun q k h1 h2 => by subst hX; rw [gA_sI, gA_sA, if_neg (by omega), asW_A (by omega) (by omega)]; exact x3 q k h2
    have xP : ∀ o p, plc o → (∀ j, j < a.ch → o ≠ 161 + 63 * a.kp + 3 * j) → o ≠ 161 + 63 * a.kp + 60 → XPl o g p → XPl o X p := fun o p ho h1 h2 hp => by
      have := plc_other (o1 := 3) ho (plc_i (i := 20) hq (by omega)) (by omega) (x4 o p ho h1 hp)
      subst hX
      exact this.mono (by rw [gI_sI, if_neg (by omega)]; rfl) (fun k => by rw [gA_sI, gA_sA, if_neg (by rcases ho with e | ⟨i, i1, i2⟩ <;> omega)]) fun k => by rw [gA_sI, gA_sA, if_neg (by rcases ho with e | ⟨i, i1, i2⟩ <;> omega)]
    have xN : ∀ j, j < a.ch → XPl (161 + 63 * a.kp + 3 * j) X (a.bf j) := fun j hj => by
      have := plc_other (o1 := 3) (plc_i (q := a.kp) (i := j) hq (by omega)) (plc_i (q := a.kp) (i := 20) hq (by omega)) (by omega) (x5 j hj)
      subst hX
      exact this.mono (by rw [gI_sI, if_neg (by omega)]; rfl) (fun k => by rw [gA_sI, gA_sA, if_neg (by omega)]) fun k => by rw [gA_sI, gA_sA, if_neg (by omega)]
    have xQ : XPl (161 + 63 * a.kp + 60) X a.p := by
      have := asW_pl (o1 := 3) (o2 := 161 + 63 * a.kp + 60) hpn (by omega) (x4 3 a.p (Or.inl rfl) (fun j hj => by omega) h.xp)
      subst hX
      exact this.mono (by rw [gI_sI, if_neg (by omega)]; rfl) (fun k => by rw [gA_sI, gA_sA, if_neg (by omega)]) fun k => by rw [gA_sI, gA_sA, if_neg (by omega)]
    have hx : x_image N K g = some (((a.kp : Int) + 1), X) := by
      have s1 : gI G 17 0 = a.kp := by rw [x2 _ _ (by omega)]; exact h.xk
      have s2 : gI (asW G 3 (161 + 63 * a.kp + 60)) 17 0 = a.kp := by rw [asW_I, if_neg (by omega)]; exact s1
      have s3 : gI (asW G 3 (161 + 63 * a.kp + 60)) 16 0 = a.ch := by rw [asW_I, if_neg (by omega), x2 _ _ (by omega)]; exact h.xc
      unfold x_image
      rw [h.xk, w32_of (by omega) (by omega), w32_of (by omega) (by omega), if_pos (by omega), x1, obind_some, s1, show rdQ K G 7 3 (a.kp : Int) 50021 = some (8 + a.kp) from rdQ_of hq (by omega) (by rw [x3 _ _ (by omega)]; exact h.b7 _ hq) (k8 hW hq), obind_some, show rdQ K G (8 + a.kp) 21 (20 : Int) 3 = some (161 + 63 * a.kp + 60) from rdQ_of (k := 20) (by omega) (by omega) (by rw [x3 _ _ (by omega)]; exact h.b8 _ 20 hq (by omega)) (ki (i := 20) hW hq (by omega)), obind_some, xPlan_as_eq, obind_some, s2, s3, wrA_nat hq (by omega), obind_some]
      rw [gI_sA, s2, hX]
    -- the model
    obtain ⟨gk, k1, k2, k3⟩ := m_keepsIn_eq (N := N) (gm := sI gm 900 0 0) hN (l := 42) (n := 1578) (q := 526 * a.kp) (by omega) (by omega) (by omega) hth.mp.n
    obtain ⟨gl, hgl⟩ : ∃ gl, gl = sA gk 42 (526 * a.kp + 25) (a.ch : Int) := ⟨_, rfl⟩
    have lI : ∀ f j, gI gl f j = gI (sI gm 900 0 0) f j := fun f j => by subst hgl; exact k2 f j
    obtain ⟨gn, n1, n2, n3⟩ := copy_eq (N := N) (gm := gl) (F := fun x => x) hN (B := fun s => m_image_b48 N ((526 * a.kp : Nat) : Int) s.1 s.2) (src := 41) (dst := 42) (ds := 0) (dd := 526 * a.kp + 26) (n := 25 * a.ch) (by omega) (fun gx i hI hi => by
      have e : gI gx 970 0 = a.ch := by rw [hI, lI]; exact hth.mc
      unfold m_image_b48
      dsimp only
      rw [e, w32_of (by omega) (by omega), w32_of (by omega) (by omega), if_neg (by omega), rdA_nat (by omega) (by omega), obind_some, wrA_at (526 * a.kp + 26 + i) (by omega) (by omega) (by omega), obind_some, Nat.zero_add]) (fun gx hI => by
      have e : gI gx 970 0 = a.ch := by rw [hI, lI]; exact hth.mc
      unfold m_image_b48
      dsimp only
      rw [e, w32_of (by omega) (by omega), w32_of (by omega) (by omega), if_pos (by omega)]) (by omega)
    obtain ⟨Y, hY⟩ : ∃ Y, Y = sI gn 972 0 ((a.kp : Int) + 1) := ⟨_, rfl⟩
    have yI : ∀ f j, f ≠ 972 → gI Y f j = gI (sI gm 900 0 0) f j := fun f j hf => by subst hY; rw [gI_sI, if_neg (by omega), n2]; exact lI f j
    have lA : ∀ b j, gA gl b j = if b = 42 ∧ j = 526 * a.kp + 25 then (a.ch : Int) else if b = 42 ∧ 526 * a.kp ≤ j ∧ j < 526 * a.kp + 25 then (if j = 526 * a.kp + 24 then (a.p.n : Int) else gA (sI gm 900 0 0) 26 (j - 526 * a.kp)) else gA (sI gm 900 0 0) b j := fun b j => by subst hgl; rw [gA_sA, k3]
    have yA : ∀ b j, (b ≠ 42 ∨ j < 526 * a.kp ∨ 526 * (a.kp + 1) ≤ j) → gA Y b j = gA (sI gm 900 0 0) b j := fun b j hb => by
      subst hY
      rw [gA_sI, n3, if_neg (by omega), lA, if_neg (by omega), if_neg (by omega)]
    have hm : m_image N gm = some (((a.kp : Int) + 1), Y) := by
      unfold m_image
      rw [hth.mk3, w32_of (by omega) (by omega), w32_of (by omega) (by omega), if_pos (by omega), show 526 * (a.kp : Int) = ((526 * a.kp : Nat) : Int) by omega, k1, obind_some, k2, hth.mc, wrA_at (526 * a.kp + 25) (by omega) (by omega) (by omega), obind_some, ← hgl, n1, obind_some, show gI gn 972 0 = a.kp by rw [n2, lI]; exact hth.mk3, gI_sI, if_pos ⟨rfl, rfl⟩, hY]
    have yO : ∀ l' q' p', MRow l' q' (sI gm 900 0 0) p' → p'.n ≤ 12 → (l' ≠ 42 ∨ q' + 25 ≤ 526 * a.kp) → MRow l' q' Y p' := fun l' q' p' hr hn hd => MRow.mk (by rw [yA _ _ (by omega), hr.n]) (fun i hi => by rw [yA _ _ (by omega), hr.de i hi]) fun i hi => by rw [yA _ _ (by omega), hr.wh i hi]
    have I : Inv N t K z X Y (Ab.mk a.r a.rd a.p a.lw a.ch a.bf (a.kp + 1) (fun q => if q = a.kp then a.p else a.im q) (fun q i => if q = a.kp then a.bf i else a.ib q i) (fun q => if q = a.kp then a.ch else a.ic q)) := by
      refine hth.plan ⟨fun f q h1 _ h3 => xI f q h1 h3, fun q k h1 h2 h3 h4 => xA q k h3 (by omega)⟩ ⟨fun f q h1 h2 h3 => yI f q h3, fun q k h1 h2 h3 => yA q k (Or.inl h3)⟩ rfl rfl rfl h.pok (xP _ _ (Or.inl rfl) (fun j hj => by omega) (by omega) h.xp) (hth.mp.mono (yI _ _ (by omega)) fun k => yA _ _ (by omega)) h.c20 (by rw [xI _ _ (by omega) (by omega)]; exact h.xc) (by rw [yI _ _ (by omega)]; exact hth.mc) h.bok (fun i hi => xP _ _ (plc_b (by have hi : i < a.ch := hi; omega)) (fun j hj => by have hi : i < a.ch := hi; omega) (by have hi : i < a.ch := hi; omega) (h.xb i hi)) (fun i hi => yO _ _ _ (hth.mb i hi) (h.bok i hi).n (by omega)) (by show a.kp + 1 ≤ 3; omega) ?_ ?_ (fun q hq => ?_) (fun q hq => ?_) (fun q hq => ?_) (fun q hq => ?_) (fun q hq => ?_) (fun q hq => ?_) (fun q i hq hi => ?_) (fun q i hq hi h2 => ?_) (fun q i hq hi h2 => ?_)
      · subst hX; rw [gI_sI, if_pos ⟨rfl, rfl⟩]; rfl
      · subst hY; rw [gI_sI, if_pos ⟨rfl, rfl⟩]; rfl
      · have hq : q < a.kp + 1 := hq
        show (if q = a.kp then a.ch else a.ic q) ≤ 20
        split
        · exact hch
        · exact h.ic20 q (by omega)
      · have hq : q < a.kp + 1 := hq
        show gA X 11 q = ((if q = a.kp then a.ch else a.ic q : Nat) : Int)
        subst hX
        rw [gA_sI, gA_sA]
        by_cases e : q = a.kp
        · rw [if_pos ⟨rfl, e⟩, if_pos e]
        · rw [if_neg (fun q => e q.2), if_neg e, asW_A (by omega) (by omega), x3 _ _ (by omega)]; exact h.xic q (by omega)
      · have hq : q < a.kp + 1 := hq
        show gA Y 42 (526 * q + 25) = ((if q = a.kp then a.ch else a.ic q : Nat) : Int)
        by_cases e : q = a.kp
        · subst e hY
          rw [gA_sI, n3, if_neg (by omega), lA, if_pos ⟨rfl, rfl⟩, if_pos rfl]
        · rw [yA _ _ (by omega), if_neg e]; exact hth.mic q (by omega)
      · have hq : q < a.kp + 1 := hq
        show PlOK a.rd (if q = a.kp then a.p else a.im q)
        split
        · exact h.pok
        · exact h.iok q (by omega)
      · have hq : q < a.kp + 1 := hq
        show XPl (161 + 63 * q + 60) X (if q = a.kp then a.p else a.im q)
        by_cases e : q = a.kp
        · rw [if_pos e, e]; exact xQ
        · rw [if_neg e]; exact xP _ _ (plc_i (q := q) (i := 20) (by omega) (by omega)) (fun j hj => by omega) (by omega) (h.xim q (by omega))
      · have hq : q < a.kp + 1 := hq
        show MRow 42 (526 * q) Y (if q = a.kp then a.p else a.im q)
        by_cases e : q = a.kp
        · rw [if_pos e, e]
          have yk : ∀ j, j < 25 → gA Y 42 (526 * a.kp + j) = if j = 24 then (a.p.n : Int) else gA (sI gm 900 0 0) 26 j := fun j hj => by
            subst hY
            rw [gA_sI, n3, if_neg (by omega), lA, if_neg (by omega), if_pos ⟨rfl, by omega, by omega⟩, show 526 * a.kp + j - 526 * a.kp = j by omega]
            by_cases e5 : j = 24
            · rw [if_pos (by omega), if_pos e5]
            · rw [if_neg (by omega), if_neg e5]
          refine MRow.mk (by rw [yk 24 (by omega), if_pos rfl]) (fun i hi => ?_) fun i hi => ?_
          · rw [yk (2 * i) (by omega), if_neg (by omega)]; exact hth.mp.de i hi
          · rw [show 526 * a.kp + 2 * i + 1 = 526 * a.kp + (2 * i + 1) by omega, yk (2 * i + 1) (by omega), if_neg (by omega)]; exact hth.mp.wh i hi
        · rw [if_neg e]; exact yO _ _ _ (hth.mim q (by omega)) (h.iok q (by omega)).n (by omega)
      · have hq : q < a.kp + 1 := hq
        show PlOK a.rd (if q = a.kp then a.bf i else a.ib q i)
        have hi : i < (if q = a.kp then a.ch else a.ic q) := hi
        by_cases e : q = a.kp
        · rw [if_pos e] at hi ⊢; exact h.bok i hi
        · rw [if_neg e] at hi ⊢; exact h.ibok q i (by omega) hi
      · have hq : q < a.kp + 1 := hq
        show XPl (161 + 63 * q + 3 * i) X (if q = a.kp then a.bf i else a.ib q i)
        have hi : i < (if q = a.kp then a.ch else a.ic q) := hi
        by_cases e : q = a.kp
        · rw [if_pos e] at hi ⊢; rw [e]; exact xN i hi
        · rw [if_neg e] at hi ⊢; exact xP _ _ (plc_i (by omega) (by omega)) (fun j hj => by omega) (by omega) (h.xib q i (by omega) hi h2)
      · have hq : q < a.kp + 1 := hq
        show MRow 42 (526 * q + 26 + 25 * i) Y (if q = a.kp then a.bf i else a.ib q i)
        have hi : i < (if q = a.kp then a.ch else a.ic q) := hi
        by_cases e : q = a.kp
        · rw [if_pos e] at hi ⊢
          have yk : ∀ j, j < 25 → gA Y 42 (526 * a.kp + 26 + 25 * i + j) = gA (sI gm 900 0 0) 41 (25 * i + j) := fun j hj => by
            subst hY
            rw [gA_sI, n3, if_pos ⟨rfl, by omega, by omega⟩, lA, if_neg (by omega), if_neg (by omega), show 0 + (526 * a.kp + 26 + 25 * i + j - (526 * a.kp + 26)) = 25 * i + j by omega]
          have hb := hth.mb i hi
          have hbn := (h.bok i hi).n
          rw [e]
          refine MRow.mk (by rw [yk 24 (by omega)]; exact hb.n) (fun k hk => ?_) fun k hk => ?_
          · rw [yk (2 * k) (by omega)]; exact hb.de k hk
          · rw [show 526 * a.kp + 26 + 25 * i + 2 * k + 1 = 526 * a.kp + 26 + 25 * i + (2 * k + 1) by omega, yk (2 * k + 1) (by omega)]; exact hb.wh k hk
        · rw [if_neg e] at hi ⊢; exact yO _ _ _ (hth.mib q i (by omega) hi h2) (h.ibok q i (by omega) hi).n (by omega)
    refine ⟨((K, z, X), Y), ?_, _, I.val0 .refl .refl h394⟩
    unfold lc_45
    rw [hx, hm, obind_some, obind_some, if_pos rfl]
