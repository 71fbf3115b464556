set_option maxRecDepth 100000
/-! PLAIN 32: bytes come; what would be -/
variable {N : Nat} {K K' : Nat → Nat} {t t' z z' r o : Nat} {g gm g1 gm1 : GS} {a1 a2 a3 a4 a5 a6 v w : Int} {a : Ab} {rd : Rd} {p : Pl}
def fdS (a1 a2 a3 a4 a5 : Int) (i : Nat) : Int := if i < 4 then a1 else if i < 8 then a2 else if i < 12 then a3 else if i < 16 then a4 else a5
/-- a byte, seen without its sign -/
theorem byte_eq (x : Int) : i_and (i_b (i_b x)) 255 = i_and x 255 := by
  have h : ∀ y : Int32, (y.toInt8.toInt32.toInt8.toInt32 &&& 255 : Int32) = y &&& 255 := by
    intro y
    apply Int32.toBitVec_inj.mp
    simp only [Int32.toBitVec_and, Int8.toBitVec_toInt32, Int32.toBitVec_toInt8]
    have e255 : (255 : Int32).toBitVec = 255#32 := rfl
    rw [e255]
    apply BitVec.eq_of_getLsbD_eq
    intro i hi
    rw [BitVec.getLsbD_and, BitVec.getLsbD_and]
    by_cases e : i < 8
    · simp only [BitVec.getLsbD_signExtend, e, hi, decide_true, Bool.true_and, if_true]
    · have : (255#32).getLsbD i = false := by
        have : ∀ i : Nat, i < 32 → ¬ i < 8 → (255#32).getLsbD i = false := by decide
        exact this i hi e
      rw [this, Bool.and_false, Bool.and_false]
  unfold i_and i_b
  rw [Int32.ofInt_toInt, Int32.ofInt_toInt]
  have := h (Int32.ofInt x)
  exact congrArg Int32.toInt this
/-- tape, place, book changed; all else as it was -/
theorem Inv.misc {gy hy G H : GS} (I : Inv N t K z gy hy a) (xI : ∀ f q, q ≠ 0 ∨ (f ≠ 13 ∧ f ≠ 14 ∧ f ≠ 15) → gI G f q = gI gy f q) (xA : ∀ q k, q ≠ 1 → q ≠ 13 → gA G q k = gA gy q k) (mI : ∀ f, (f = 943 ∨ f = 949 ∨ (932 ≤ f ∧ f ≤ 936) ∨ f = 970 ∨ f = 972) → gI H f 0 = gI hy f 0) (mA : ∀ q k, (q = 1 ∨ (9 ≤ q ∧ q ≤ 14) ∨ q = 16 ∨ q = 18 ∨ q = 21 ∨ q = 22 ∨ q = 26 ∨ q = 35 ∨ q = 41 ∨ q = 42) → gA H q k = gA hy q k) (hfd : ∃ n : Nat, n ≤ 600 ∧ gI G 13 0 = n ∧ gI H 902 0 = n) (htp : ∀ k, k < 600 → i_and (gA G 1 k) 255 = gA H 2 k ∧ 0 ≤ gA H 2 k ∧ gA H 2 k ≤ 255) (hpl : gI G 14 0 = gI H 908 0) (hbk : gI G 15 0 = gI H 950 0) (hsn : ∀ s, s < 3 → gA G 13 s = gA H 28 s ∧ -1 ≤ gA H 28 s ∧ gA H 28 s ≤ 1) : Inv N t K z G H a := by
  have hr := I.r0
  have pX : ∀ {o p}, (o = 3 ∨ 101 ≤ o) → XPl o gy p → XPl o G p := fun ho hp => hp.mono (xI _ _ (by omega)) (fun k => xA _ _ (by omega) (by omega)) fun k => xA _ _ (by omega) (by omega)
  have rM : ∀ {l q p}, (l = 41 ∨ l = 42) → MRow l q hy p → MRow l q H p := fun hl hp => hp.mono fun k => mA _ _ (by omega)
  exact Inv.mk (by rw [xI _ _ (by omega)]; exact I.r12) I.kr I.r0 I.rz (I.xr.mono (fun f _ _ => xI _ _ (by omega)) fun q k _ _ => xA _ _ (by omega) (by omega)) (I.mr.mono (fun f _ _ => mI f (by omega)) fun q k _ _ _ _ => mA q k (by omega)) I.ok I.lwo (I.xl.mono fun f q _ hf => xI _ _ (by omega)) (I.ml.mono (mI _ (by omega)) (fun k => mA _ _ (by omega)) fun k => mA _ _ (by omega)) I.pok (pX (by omega) I.xp) (I.mp.mono (mI _ (by omega)) fun k => mA _ _ (by omega)) I.c20 (by rw [xI _ _ (by omega)]; exact I.xc) (by rw [mI _ (by omega)]; exact I.mc) (fun i hi => by rw [xA _ _ (by omega) (by omega)]; exact I.b6 i hi) I.bok (fun i hi => pX (by omega) (I.xb i hi)) (fun i hi => rM (by omega) (I.mb i hi)) I.k3 (by rw [xI _ _ (by omega)]; exact I.xk) (by rw [mI _ (by omega)]; exact I.mk3) (fun i hi => by rw [xA _ _ (by omega) (by omega)]; exact I.b7 i hi) (fun q i hq hi => by rw [xA _ _ (by omega) (by omega)]; exact I.b8 q i hq hi) I.ic20 (fun q hq => by rw [xA _ _ (by omega) (by omega)]; exact I.xic q hq) (fun q hq => by rw [mA _ _ (by omega)]; exact I.mic q hq) I.iok (fun q hq => pX (by omega) (I.xim q hq)) (fun q hq => rM (by omega) (I.mim q hq)) I.ibok (fun q i hq hi h2 => pX (by omega) (I.xib q i hq hi h2)) (fun q i hq hi h2 => rM (by omega) (I.mib q i hq hi h2)) hfd htp hpl hbk hsn (fun j hj => by rw [xA _ _ (by omega) (by omega), mA _ _ (by omega)]; exact I.rf j hj) (fun k hk => by rw [xA _ _ (by omega) (by omega)]; exact I.w23 k hk) (fun k hk => by rw [xI _ _ (by omega), xI _ _ (by omega)]; exact I.wlo k hk) (fun d hd => by rw [mA _ _ (by omega)]; exact I.mo d hd) I.zb
theorem fdS_div {i : Nat} (hi : i < 20) : i / 4 < 5 := by omega
theorem s_feed (hN : 100000000000000000000 ≤ N) (h : Inv N t K z g gm a) (h394 : 394 ≤ z) (ht : t < 64) (hK : K z = 0) : StepOK N t (lc_0 N K z g gm a1 a2 a3 a4 a5 a6) := by
  obtain ⟨n, n1, n2, n3⟩ := h.fd
  have hzb := h.zb
  have hth := h.th h394
  have t3 : gI (sI gm 900 0 0) 902 0 = n := by rw [gI_sI, if_neg (by omega)]; exact n3
  by_cases hc : n + 20 ≤ 600
  · obtain ⟨W, hWd⟩ : ∃ W, W = sA (sA (sA (sA (sA (newA z 0 g) z 0 a1) z 1 a2) z 2 a3) z 3 a4) z 4 a5 := ⟨_, rfl⟩
    have wz : ∀ j, j < 5 → gA W z j = if j = 0 then a1 else if j = 1 then a2 else if j = 2 then a3 else if j = 3 then a4 else a5 := by
      intro j hj
      have : j = 0 ∨ j = 1 ∨ j = 2 ∨ j = 3 ∨ j = 4 := by omega
      subst hWd
      rcases this with rfl | rfl | rfl | rfl | rfl <;> simp [gA_sA]
    have wo : ∀ q k, q ≠ z → gA W q k = gA g q k := by
      intro q k hq
      subst hWd
      simp only [gA_sA, gA_newA]
      rw [if_neg (by omega), if_neg (by omega), if_neg (by omega), if_neg (by omega), if_neg (by omega), if_neg (by omega)]
    have wI : ∀ f q, gI W f q = gI g f q := by intro f q; subst hWd; rfl
    have b4 : ∀ i, i < 20 → gA W z (i / 4) = fdS a1 a2 a3 a4 a5 i := by
      intro i hi
      rw [wz _ (by omega)]
      unfold fdS
      by_cases q1 : i < 4
      · rw [if_pos q1, if_pos (by omega)]
      · rw [if_neg q1, if_neg (by omega)]
        by_cases q2 : i < 8
        · rw [if_pos q2, if_pos (by omega)]
        · rw [if_neg q2, if_neg (by omega)]
          by_cases q3 : i < 12
          · rw [if_pos q3, if_pos (by omega)]
          · rw [if_neg q3, if_neg (by omega)]
            by_cases q4 : i < 16
            · rw [if_pos q4, if_pos (by omega)]
            · rw [if_neg q4, if_neg (by omega)]
    have rm : ∀ i : Nat, i < 20 → i_rem (i : Int) 4 = ((i % 4 : Nat) : Int) := fun i hi => i_rem_nat (b := 4) (by omega) (by omega)
    have dv : ∀ i : Nat, i < 20 → i_div (i : Int) 4 = ((i / 4 : Nat) : Int) := fun i hi => i_div_nat (b := 4) (by omega) (by omega)
    -- RainWheel
    obtain ⟨e, x1, G, x2, x3, x4, x5, x6⟩ := loop_ex (N := N) (B := fun s => x_feed_b45 N z s.1 s.2) (s := ((ku K z 10005, z + 1, W), 0)) (fun i s => ∃ G, s = ((ku K z 10005, z + 1, G), (i : Int)) ∧ gI G 13 0 = ((n + i : Nat) : Int) ∧ (∀ f q, f ≠ 13 ∨ q ≠ 0 → gI G f q = gI g f q) ∧ (∀ q k, q ≠ 1 → gA G q k = gA W q k) ∧ ∀ k, gA G 1 k = if n ≤ k ∧ k < n + i then i_b (i_b (i_shr (fdS a1 a2 a3 a4 a5 (k - n)) (24 - 8 * (((k - n) % 4 : Nat) : Int)))) else gA g 1 k) 20 (fun e => ∃ G, e = ((((n + 20 : Nat) : Int)), (ku K z 10005, z + 1, G)) ∧ gI G 13 0 = ((n + 20 : Nat) : Int) ∧ (∀ f q, f ≠ 13 ∨ q ≠ 0 → gI G f q = gI g f q) ∧ (∀ q k, q ≠ 1 → gA G q k = gA W q k) ∧ ∀ k, gA G 1 k = if n ≤ k ∧ k < n + 20 then i_b (i_b (i_shr (fdS a1 a2 a3 a4 a5 (k - n)) (24 - 8 * (((k - n) % 4 : Nat) : Int)))) else gA g 1 k) (fun i s hi hs => by
      obtain ⟨G, rfl, q1, q2, q3, q4⟩ := hs
      refine ⟨((ku K z 10005, z + 1, sA (sI G 13 0 (((n + i : Nat) : Int) + 1)) 1 (n + i) (i_b (i_b (i_shr (fdS a1 a2 a3 a4 a5 i) (24 - 8 * ((i % 4 : Nat) : Int)))))), ((i + 1 : Nat) : Int)), ?_, _, rfl, ?_, fun f q hf => ?_, fun q k hq => ?_, fun k => ?_⟩
      · unfold x_feed_b45
        dsimp only
        rw [ckK_eq ku_self, w32_of (by omega) (by omega), w32_of (by omega) (by omega), if_neg (by omega), dv i hi, rm i hi, rdA_val (v := fdS a1 a2 a3 a4 a5 i) (by rw [gA_sI, q3 _ _ (by omega), b4 i hi]) (by omega) (by omega), obind_some, q1, wrA_nat (by omega) (by omega), obind_some]
        rfl
      · rw [gI_sA, gI_sI, if_pos ⟨rfl, rfl⟩]; omega
      · rw [gI_sA, gI_sI, if_neg (by omega)]; exact q2 f q hf
      · rw [gA_sA, if_neg (by omega)]; exact q3 q k hq
      · rw [gA_sA]
        by_cases e : k = n + i
        · rw [if_pos ⟨rfl, e⟩, if_pos (by omega), e, show n + i - n = i by omega]
        · rw [if_neg (fun q => e q.2), gA_sI, q4]
          by_cases e2 : n ≤ k ∧ k < n + i
          · rw [if_pos e2, if_pos (by omega)]
          · rw [if_neg e2, if_neg (by omega)]) (fun s hs => by
      obtain ⟨G, rfl, q1, q2, q3, q4⟩ := hs
      refine ⟨_, ?_, G, rfl, q1, q2, q3, q4⟩
      unfold x_feed_b45
      dsimp only
      rw [ckK_eq ku_self, if_pos (by decide), q1]; rfl) ⟨W, rfl, by rw [wI]; exact n2, fun f q _ => wI f q, fun _ _ _ => rfl, fun k => by rw [if_neg (by omega), wo _ _ (by omega)]⟩ (by omega)
    subst x2
    have hx : x_feed N K z g a1 a2 a3 a4 a5 = some (((n + 20 : Nat) : Int), (ku K z 10005, z + 1, G)) := by
      unfold x_feed
      rw [n2, w32_of (by omega) (by omega), w32_of (by omega) (by omega), if_pos (by omega), lim_le (by omega), wrA_at (i := 0) 0 rfl (by omega) (by omega), obind_some, wrA_at (i := 1) 1 rfl (by omega) (by omega), obind_some, wrA_at (i := 2) 2 rfl (by omega) (by omega), obind_some, wrA_at (i := 3) 3 rfl (by omega) (by omega), obind_some, wrA_at (i := 4) 4 rfl (by omega) (by omega), obind_some, ← hWd]
      exact x1
    -- the model
    obtain ⟨f, m1, m2, m3, m4, m5, m6⟩ := loop_ex (N := N) (B := fun s => m_feed_b23 N a1 a2 a3 a4 a5 s.1 s.2) (s := (sI gm 900 0 0, 0)) (fun i s => s.2 = (i : Int) ∧ gI s.1 902 0 = ((n + i : Nat) : Int) ∧ (∀ f q, f ≠ 902 → gI s.1 f q = gI (sI gm 900 0 0) f q) ∧ (∀ q k, q ≠ 2 → gA s.1 q k = gA (sI gm 900 0 0) q k) ∧ ∀ k, gA s.1 2 k = if n ≤ k ∧ k < n + i then i_and (i_shr (fdS a1 a2 a3 a4 a5 (k - n)) (24 - 8 * (((k - n) % 4 : Nat) : Int))) 255 else gA gm 2 k) 20 (fun e => e.1 = ((n + 20 : Nat) : Int) ∧ gI e.2 902 0 = ((n + 20 : Nat) : Int) ∧ (∀ f q, f ≠ 902 → gI e.2 f q = gI (sI gm 900 0 0) f q) ∧ (∀ q k, q ≠ 2 → gA e.2 q k = gA (sI gm 900 0 0) q k) ∧ ∀ k, gA e.2 2 k = if n ≤ k ∧ k < n + 20 then i_and (i_shr (fdS a1 a2 a3 a4 a5 (k - n)) (24 - 8 * (((k - n) % 4 : Nat) : Int))) 255 else gA gm 2 k) (fun i s hi hs => by
      obtain ⟨gx, j⟩ := s
      obtain ⟨rfl, q1, q2, q3, q4⟩ := hs
      dsimp only at q1 q2 q3 q4
      have key : ∀ v : Int, v = fdS a1 a2 a3 a4 a5 i → m_feed_j76 N gx a1 a2 a3 a4 a5 i v = some (.inl (sI (sA gx 2 (n + i) (i_and (i_shr (fdS a1 a2 a3 a4 a5 i) (24 - 8 * ((i % 4 : Nat) : Int))) 255)) 902 0 (((n + i : Nat) : Int) + 1), ((i + 1 : Nat) : Int))) := by
        intro v hv
        unfold m_feed_j76
        rw [q1, rm i hi, wrA_nat (by omega) (by omega), obind_some, gI_sA, q1, hv]
        rfl
      refine ⟨(sI (sA gx 2 (n + i) (i_and (i_shr (fdS a1 a2 a3 a4 a5 i) (24 - 8 * ((i % 4 : Nat) : Int))) 255)) 902 0 (((n + i : Nat) : Int) + 1), ((i + 1 : Nat) : Int)), ?_, rfl, ?_, fun f q hf => ?_, fun q k hq => ?_, fun k => ?_⟩
      · unfold m_feed_b23
        dsimp only
        rw [w32_of (by omega) (by omega), w32_of (by omega) (by omega), if_neg (by omega), w32_of (by omega) (by omega), w32_of (by omega) (by omega), w32_of (by omega) (by omega), w32_of (by omega) (by omega)]
        by_cases c1 : 4 ≤ (i : Int)
        · rw [if_pos c1]
          by_cases c2 : 8 ≤ (i : Int)
          · rw [if_pos c2]
            by_cases c3 : 12 ≤ (i : Int)
            · rw [if_pos c3]
              by_cases c4 : 16 ≤ (i : Int)
              · rw [if_pos c4]; exact key _ (by unfold fdS; rw [if_neg (by omega), if_neg (by omega), if_neg (by omega), if_neg (by omega)])
              · rw [if_neg c4]; exact key _ (by unfold fdS; rw [if_neg (by omega), if_neg (by omega), if_neg (by omega), if_pos (by omega)])
            · rw [if_neg c3]; exact key _ (by unfold fdS; rw [if_neg (by omega), if_neg (by omega), if_pos (by omega)])
          · rw [if_neg c2]; exact key _ (by unfold fdS; rw [if_neg (by omega), if_pos (by omega)])
        · rw [if_neg c1]; exact key _ (by unfold fdS; rw [if_pos (by omega)])
      · rw [gI_sI, if_pos ⟨rfl, rfl⟩]; omega
      · rw [gI_sI, if_neg (by omega)]; exact q2 f q hf
      · rw [gA_sI, gA_sA, if_neg (by omega)]; exact q3 q k hq
      · rw [gA_sI, gA_sA]
        by_cases e : k = n + i
        · rw [if_pos ⟨rfl, e⟩, if_pos (by omega), e, show n + i - n = i by omega]
        · rw [if_neg (fun q => e q.2), q4]
          by_cases e2 : n ≤ k ∧ k < n + i
          · rw [if_pos e2, if_pos (by omega)]
          · rw [if_neg e2, if_neg (by omega)]) (fun s hs => by
      obtain ⟨gx, j⟩ := s
      obtain ⟨rfl, q1, q2, q3, q4⟩ := hs
      dsimp only at q1 q2 q3 q4
      refine ⟨(((n + 20 : Nat) : Int), gx), ?_, rfl, q1, q2, q3, q4⟩
      unfold m_feed_b23
      dsimp only
      rw [if_pos (by decide), q1]; rfl) ⟨rfl, t3, fun _ _ _ => rfl, fun _ _ _ => rfl, fun k => by rw [if_neg (by omega)]; rfl⟩ (by omega)
    obtain ⟨fv, H⟩ := f
    dsimp only at m2 m3 m4 m5 m6
    subst m2
    have hm : m_feed N gm a1 a2 a3 a4 a5 = some (((n + 20 : Nat) : Int), H) := by
      unfold m_feed
      rw [t3, w32_of (by omega) (by omega), w32_of (by omega) (by omega), if_pos (by omega)]
      exact m1
    -- what holds again: all but the tape as it was
    refine ⟨((ku K z 10005, z + 1, G), H), ?_, a, ?_⟩
    · unfold lc_0
      rw [hx, hm, obind_some, obind_some, if_pos rfl]
    · have I : Inv N (t + 1) (ku K z 10005) (z + 1) W (sI gm 900 0 0) a := h.same ⟨⟨fun f q _ _ => wI f q, fun f q _ _ _ => wI f q, fun q k hq _ _ _ => wo q k (by omega), fun f q _ _ => wI f q⟩, fun k => wo _ _ (by omega)⟩ .th (fun q hq => ku_ne (by omega)) h394 (by omega) (by omega)
      refine I.misc (fun f q hf => by rw [x4 f q (by omega), wI]) (fun q k h1 _ => x5 q k h1) (fun f hf => m4 f 0 (by omega)) (fun q k hq => m5 q k (by omega)) ⟨n + 20, by omega, x3, m3⟩ (fun k hk => ?_) (by rw [x4 _ _ (by omega), m4 _ _ (by omega), gI_sI, if_neg (by omega)]; exact h.pl) (by rw [x4 _ _ (by omega), m4 _ _ (by omega), gI_sI, if_neg (by omega)]; exact h.bk) (fun s hs => by rw [x5 _ _ (by omega), wo _ _ (by omega), m5 _ _ (by omega)]; exact h.sn s hs)
      rw [x6, m6]
      by_cases e : n ≤ k ∧ k < n + 20
      · rw [if_pos e, if_pos e, byte_eq]
        obtain ⟨u, u1, u2⟩ := i_and_nonneg (i_shr (fdS a1 a2 a3 a4 a5 (k - n)) (24 - 8 * (((k - n) % 4 : Nat) : Int))) (m := 255) (by omega)
        rw [show (255 : Int) = ((255 : Nat) : Int) from rfl, u2]
        exact ⟨rfl, by omega, by omega⟩
      · rw [if_neg e, if_neg e]; exact h.tp k hk
  · refine ⟨((K, z, g), sI gm 900 0 0), ?_, a, h.val0 .refl .th h394⟩
    unfold lc_0 x_feed m_feed
    rw [n2, t3, w32_of (by omega) (by omega), w32_of (by omega) (by omega), if_neg (by omega), if_neg (by omega), obind_some, obind_some, if_pos rfl]
