set_option maxRecDepth 100000
/-! PLAIN 31: images taken back -/
variable {N : Nat} {K : Nat → Nat} {t t' z r o : Nat} {g gm g1 gm1 : GS} {a1 a2 a3 a4 a5 a6 v w : Int} {a : Ab} {rd : Rd} {p : Pl}
theorem s_restore (hN : 100000000000000000000 ≤ N) (hW : WFK K) (h : Inv N t K z g gm a) (h394 : 394 ≤ z) : StepOK N t (lc_46 N K z g gm a1 a2 a3 a4 a5 a6) := by
  have hth := h.th h394
  have hk3 := h.k3
  by_cases hc : a.kp = 0
  · refine ⟨((K, z, g), sI gm 900 0 0), ?_, a, h.val0 .refl .th h394⟩
    unfold lc_46 x_restore m_restore
    rw [h.xk, hth.mk3, hc, if_neg (by decide), if_neg (by decide), obind_some, obind_some, if_pos rfl]
  · obtain ⟨q, hq⟩ : ∃ q, a.kp = q + 1 := ⟨a.kp - 1, by omega⟩
    have eq1 : (a.kp : Int) - 1 = (q : Int) := by omega
    have hqk : q < a.kp := by omega
    have hq3 : q < 3 := by omega
    have hic := h.ic20 q hqk
    have hio := h.iok q hqk
    obtain ⟨G0, hG0⟩ : ∃ G0, G0 = sI (sI g 17 0 (q : Int)) 16 0 (a.ic q : Int) := ⟨_, rfl⟩
    have g0I : ∀ f j, f ≠ 16 → f ≠ 17 → gI G0 f j = gI g f j := fun f j h1 h2 => by subst hG0; rw [gI_sI, if_neg (by omega), gI_sI, if_neg (by omega)]
    have g0A : ∀ b j, gA G0 b j = gA g b j := fun b j => by subst hG0; rfl
    have g016 : gI G0 16 0 = a.ic q := by subst hG0; rw [gI_sI, if_pos ⟨rfl, rfl⟩]
    have g017 : gI G0 17 0 = q := by subst hG0; rw [gI_sI, if_neg (by omega), gI_sI, if_pos ⟨rfl, rfl⟩]
    have pG : ∀ {o p}, XPl o g p → XPl o G0 p := fun hp => hp.mono (g0I _ _ (by omega) (by omega)) (fun _ => g0A _ _) fun _ => g0A _ _
    obtain ⟨G, x1, x2, x3, x4, x5⟩ := loop_ex (N := N) (B := fun s => x_restore_b34 N K s.1 s.2) (s := (G0, 0)) (fun i s => s.2 = (i : Int) ∧ (∀ f q, f ≠ 202 → gI s.1 f q = gI G0 f q) ∧ (∀ q k, (q < 101 ∨ 350 ≤ q) → gA s.1 q k = gA g q k) ∧ (∀ o p, plc o → (∀ j, j < a.ic q → o ≠ 101 + 3 * j) → XPl o g p → XPl o s.1 p) ∧ ∀ j, j < i → XPl (101 + 3 * j) s.1 (a.ib q j)) (a.ic q) (fun G => (∀ f q, f ≠ 202 → gI G f q = gI G0 f q) ∧ (∀ q k, (q < 101 ∨ 350 ≤ q) → gA G q k = gA g q k) ∧ (∀ o p, plc o → (∀ j, j < a.ic q → o ≠ 101 + 3 * j) → XPl o g p → XPl o G p) ∧ ∀ j, j < a.ic q → XPl (101 + 3 * j) G (a.ib q j)) (fun i s hi hs => by
      obtain ⟨gx, j⟩ := s
      obtain ⟨rfl, q1, q2, q3, q4⟩ := hs
      dsimp only at q1 q2 q3 q4
      have hbo := h.ibok q i hqk hi
      have hb : XPl (161 + 63 * q + 3 * i) gx (a.ib q i) := q3 _ _ (plc_i hq3 (by omega)) (fun j hj => by omega) (h.xib q i hqk hi (by omega))
      refine ⟨(asW gx (161 + 63 * q + 3 * i) (101 + 3 * i), ((i + 1 : Nat) : Int)), ?_, rfl, fun f q hf => by rw [asW_I, if_neg (fun e => hf e.1)]; exact q1 f q hf, fun q k hqk => by rw [asW_A (by omega) (by omega)]; exact q2 q k hqk, fun o p ho hno hp => plc_other ho (plc_b (by omega)) (hno i hi) (q3 o p ho hno hp), fun j hj => ?_⟩
      · unfold x_restore_b34
        dsimp only
        rw [q1 _ _ (by omega), g016, w32_of (by omega) (by omega), w32_of (by omega) (by omega), if_neg (by omega), show rdQ K gx 6 20 (i : Int) 3 = some (101 + 3 * i) from rdQ_of (by omega) (by omega) (by rw [q2 _ _ (by omega)]; exact h.b6 _ (by omega)) (kb hW (by omega)), obind_some, q1 _ _ (by omega), g017, show rdQ K gx 7 3 (q : Int) 50021 = some (8 + q) from rdQ_of hq3 (by omega) (by rw [q2 _ _ (by omega)]; exact h.b7 _ hq3) (k8 hW hq3), obind_some, show rdQ K gx (8 + q) 21 (i : Int) 3 = some (161 + 63 * q + 3 * i) from rdQ_of (by omega) (by omega) (by rw [q2 _ _ (by omega)]; exact h.b8 _ _ hq3 (by omega)) (ki hW hq3 (by omega)), obind_some, xPlan_as_eq, obind_some]
        rfl
      · by_cases e : j = i
        · subst e; exact asW_pl hbo.n (by omega) hb
        · exact plc_other (plc_b (by omega)) (plc_b (by omega)) (by omega) (q4 j (by omega))) (fun s hs => by
      obtain ⟨gx, j⟩ := s
      obtain ⟨rfl, q1, q2, q3, q4⟩ := hs
      refine ⟨gx, ?_, q1, q2, q3, q4⟩
      unfold x_restore_b34
      dsimp only
      rw [q1 _ _ (by omega), g016, if_pos (by omega)]) ⟨rfl, fun _ _ _ => rfl, fun _ _ _ => g0A _ _, fun _ _ _ _ hp => pG hp, fun j hj => by omega⟩ (by omega)
    obtain ⟨X, hX⟩ : ∃ X, X = asW G (161 + 63 * q + 60) 3 := ⟨_, rfl⟩
    have xI : ∀ f j, f ≠ 202 → gI X f j = gI G0 f j := fun f j h1 => by subst hX; rw [asW_I, if_neg (fun e => h1 e.1)]; exact x2 f j h1
    have xA : ∀ b k, b ≠ 4 → b ≠ 5 → (b < 101 ∨ 350 ≤ b) → gA X b k = gA g b k := fun b k h1 h2 h3 => by subst hX; rw [asW_A (by omega) (by omega)]; exact x3 b k h3
    have xP : ∀ o p, plc o → o ≠ 3 → (∀ j, j < a.ic q → o ≠ 101 + 3 * j) → XPl o g p → XPl o X p := fun o p ho h3 h1 hp => by subst hX; exact plc_other ho (Or.inl rfl) h3 (x4 o p ho h1 hp)
    have xN : ∀ j, j < a.ic q → XPl (101 + 3 * j) X (a.ib q j) := fun j hj => by subst hX; exact plc_other (plc_b (by omega)) (Or.inl rfl) (by omega) (x5 j hj)
    have xQ : XPl 3 X (a.im q) := by
      subst hX
      exact asW_pl hio.n (by omega) (x4 _ _ (plc_i (q := q) (i := 20) hq3 (by omega)) (fun j hj => by omega) (h.xim q hqk))
    have hx : x_restore N K g = some ((q : Int), X) := by
      have s1 : gI G 17 0 = q := by rw [x2 _ _ (by omega)]; exact g017
      unfold x_restore
      rw [h.xk, w32_of (by omega) (by omega), if_pos (by omega), eq1, show gI (sI g 17 0 (q : Int)) 17 0 = q by rw [gI_sI, if_pos ⟨rfl, rfl⟩], rdA_val (g := sI g 17 0 (q : Int)) (v := (a.ic q : Int)) (h.xic q hqk) (by omega) (by omega), obind_some, ← hG0, x1, obind_some, s1, show rdQ K G 7 3 (q : Int) 50021 = some (8 + q) from rdQ_of hq3 (by omega) (by rw [x3 _ _ (by omega)]; exact h.b7 _ hq3) (k8 hW hq3), obind_some, show rdQ K G (8 + q) 21 (20 : Int) 3 = some (161 + 63 * q + 60) from rdQ_of (k := 20) (by omega) (by omega) (by rw [x3 _ _ (by omega)]; exact h.b8 _ 20 hq3 (by omega)) (ki (i := 20) hW hq3 (by omega)), obind_some, xPlan_as_eq, obind_some, ← hX, xI _ _ (by omega), g017]
    -- the model
    obtain ⟨H0, hH0⟩ : ∃ H0, H0 = sI (sI gm 900 0 0) 972 0 (q : Int) := ⟨_, rfl⟩
    have h0A : ∀ b j, gA H0 b j = gA (sI gm 900 0 0) b j := fun b j => by subst hH0; rfl
    obtain ⟨gk, k1, k2, k3⟩ := m_takesFrom_eq (N := N) (gm := H0) hN (l := 42) (n := 1578) (q := 526 * q) (by omega) (by omega) (by omega)
    have kA : ∀ b j, b ≠ 26 → gA gk b j = gA (sI gm 900 0 0) b j := fun b j hb => by rw [k3, if_neg (by omega), h0A]
    obtain ⟨gl, hgl⟩ : ∃ gl, gl = sI gk 970 0 (a.ic q : Int) := ⟨_, rfl⟩
    have l970 : gI gl 970 0 = a.ic q := by subst hgl; rw [gI_sI, if_pos ⟨rfl, rfl⟩]
    have l972 : gI gl 972 0 = q := by subst hgl; rw [gI_sI, if_neg (by omega), k2, if_neg (by omega)]; subst hH0; rw [gI_sI, if_pos ⟨rfl, rfl⟩]
    have lA : ∀ b j, gA gl b j = gA gk b j := fun b j => by subst hgl; rfl
    obtain ⟨Y, n1, n2, n3⟩ := copy_eq (N := N) (gm := gl) (F := fun x => ((q : Int), x)) hN (B := fun s => m_restore_b57 N ((526 * q : Nat) : Int) s.1 s.2) (src := 42) (dst := 41) (ds := 526 * q + 26) (dd := 0) (n := 25 * a.ic q) (by omega) (fun gx i hI hi => by
      unfold m_restore_b57
      dsimp only
      rw [hI, l970, w32_of (by omega) (by omega), w32_of (by omega) (by omega), if_neg (by omega), rdA_at (526 * q + 26 + i) (by omega) (by omega) (by omega), obind_some, wrA_nat (by omega) (by omega), obind_some, Nat.zero_add]) (fun gx hI => by
      unfold m_restore_b57
      dsimp only
      rw [hI, l970, w32_of (by omega) (by omega), w32_of (by omega) (by omega), if_pos (by omega), hI, l972]; rfl) (by omega)
    have yI : ∀ f j, f ≠ 949 → f ≠ 970 → f ≠ 972 → gI Y f j = gI (sI gm 900 0 0) f j := fun f j h1 h2 h3 => by rw [n2]; subst hgl; rw [gI_sI, if_neg (by omega), k2, if_neg (by omega)]; subst hH0; rw [gI_sI, if_neg (by omega)]
    have yA : ∀ b j, b ≠ 26 → b ≠ 41 → gA Y b j = gA (sI gm 900 0 0) b j := fun b j h1 h2 => by rw [n3, if_neg (by omega), lA, kA b j h1]
    have hm : m_restore N gm = some ((q : Int), Y) := by
      unfold m_restore
      rw [hth.mk3, w32_of (by omega) (by omega), if_pos (by omega), eq1, show gI (sI (sI gm 900 0 0) 972 0 (q : Int)) 972 0 = q by rw [gI_sI, if_pos ⟨rfl, rfl⟩], ← hH0, show 526 * (q : Int) = ((526 * q : Nat) : Int) by omega, k1, obind_some, rdA_atv (k := 526 * q + 25) (v := (a.ic q : Int)) (by rw [kA _ _ (by omega)]; exact hth.mic q hqk) (by omega) (by omega) (by omega), obind_some, ← hgl]
      exact n1
    have yp : MPl Y (a.im q) := by
      have hr : MRow 42 (526 * q) H0 (a.im q) := (hth.mim q hqk).mono fun k => h0A _ _
      have := takes_pl (gm1 := gk) hio.n hr (by rw [k2, if_pos ⟨rfl, rfl⟩]) (fun j hj => by rw [k3, if_pos ⟨rfl, hj⟩])
      exact this.mono (by rw [n2]; subst hgl; rw [gI_sI, if_neg (by omega)]) fun k => by rw [n3, if_neg (by omega), lA]
    have yb : ∀ i, i < a.ic q → MRow 41 (25 * i) Y (a.ib q i) := fun i hi => by
      have hr := hth.mib q i hqk hi (by omega)
      have hin := (h.ibok q i hqk hi).n
      have e : ∀ j, j < 25 → gA Y 41 (25 * i + j) = gA (sI gm 900 0 0) 42 (526 * q + 26 + 25 * i + j) := fun j hj => by
        rw [n3, if_pos ⟨rfl, by omega, by omega⟩, lA, kA _ _ (by omega), show 526 * q + 26 + (25 * i + j - 0) = 526 * q + 26 + 25 * i + j by omega]
      refine MRow.mk (by rw [e 24 (by omega)]; exact hr.n) (fun k hk => by rw [e (2 * k) (by omega)]; exact hr.de k hk) fun k hk => ?_
      rw [show 25 * i + 2 * k + 1 = 25 * i + (2 * k + 1) by omega, e (2 * k + 1) (by omega)]
      exact hr.wh k hk
    have I : Inv N t K z X Y (Ab.mk a.r a.rd (a.im q) a.lw (a.ic q) (a.ib q) q a.im a.ib a.ic) := by
      refine hth.plan ⟨fun f j h1 h2 h3 => by rw [xI _ _ h1, g0I _ _ h2 h3], fun b k h1 h2 h3 h4 => xA b k h1 h2 h4⟩ ⟨fun f j h1 h2 h3 => yI f j h1 h2 h3, fun b k h1 h2 h3 => yA b k h1 h2⟩ rfl rfl rfl hio xQ yp hic (by rw [xI _ _ (by omega)]; exact g016) (by rw [n2]; exact l970) (fun i hi => h.ibok q i hqk hi) xN yb (by show q ≤ 3; omega) (by rw [xI _ _ (by omega)]; exact g017) (by rw [n2]; exact l972) (fun s hs => h.ic20 s (by have hs : s < q := hs; omega)) (fun s hs => by rw [xA _ _ (by omega) (by omega) (by omega)]; exact h.xic s (by have hs : s < q := hs; omega)) (fun s hs => by rw [yA _ _ (by omega) (by omega)]; exact hth.mic s (by have hs : s < q := hs; omega)) (fun s hs => h.iok s (by have hs : s < q := hs; omega)) (fun s hs => ?_) (fun s hs => ?_) (fun s i hs hi => h.ibok s i (by have hs : s < q := hs; omega) hi) (fun s i hs hi h2 => ?_) (fun s i hs hi h2 => ?_)
      · have hs : s < q := hs
        exact xP _ _ (plc_i (q := s) (i := 20) (by omega) (by omega)) (by omega) (fun j hj => by omega) (h.xim s (by omega))
      · have hs : s < q := hs
        exact (hth.mim s (by omega)).mono fun k => yA _ _ (by omega) (by omega)
      · have hs : s < q := hs
        exact xP _ _ (plc_i (q := s) (i := i) (by omega) (by omega)) (by omega) (fun j hj => by omega) (h.xib s i (by omega) hi h2)
      · have hs : s < q := hs
        exact (hth.mib s i (by omega) hi h2).mono fun k => yA _ _ (by omega) (by omega)
    refine ⟨((K, z, X), Y), ?_, _, I.val0 .refl .refl h394⟩
    unfold lc_46
    rw [hx, hm, obind_some, obind_some, if_pos rfl]
