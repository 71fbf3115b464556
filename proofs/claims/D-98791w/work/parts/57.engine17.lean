/-! ENGINE 17: the law's start, its loop, its end -/
set_option maxRecDepth 100000
def KZ : Nat → Nat := fun _ => 0
def g00 : GS := (fun _ _ => 0, fun _ _ => 0)
def K27 : Nat → Nat := fun o => if o = 0 then 27 else 0
theorem kx_blk : ∀ o, o < 350 → ∀ j, j < (blkK (kx0 o - 1)).length → (blkK (kx0 o - 1)).getD j 0 ≠ 0 → o + j < 350 ∧ kx0 (o + j) = (blkK (kx0 o - 1)).getD j 0 := by decide +kernel
section ENGZ
variable {x : CT} {cc bytes : ByteArray} {nL maxL : Nat} {own C : String} {ret ret' : Option FieldType} {rm : Room} {K K' : Nat → Nat} {sz z : Nat} {g g' gm gm' : GS} {pc : Nat} {L L' : List (Nat × Value)} {st rest As s0 s1 : List Value} {y : MethodName} {fr lo o idx n b0 Ls : Nat} {xs : Nat → Int32} {as : Nat → List Value} {β : Type} {v : β → (Nat → Option Value) × S3}
theorem V_newR {ci N : Nat} {T : u_T} (hX : XOK x cc nL own ret room_1) (hAA : ∀ q, xb x ≤ q → x.2.1.2.2.2.2.2 q) (hm : z + 1 ≤ MX) (hc : clT[ci]? = some (C, T, N)) (hin : ∀ w ∈ u_ws C T N, w ∈ lw_all) (ty0 : Nat → FieldType) (hty : ∀ k, k < N → parseFieldDescriptor (T k).2.2.1 = some (ty0 k)) (hci : ci < 100) (hN : N < 100) (hcl : Cond.classLink own idx C ∈ lw_all) (hinst : Cond.instantiable C N ∈ lw_all) (hini : Cond.initialized C ∈ lw_all)
    (hdef : ∀ j, j < N → (lt_ ci j).1 = 0 ∧ defaultValue (ty0 j) = .int 0 ∨ (3 ≤ (lt_ ci j).1 ∧ defaultValue (ty0 j) = .null)) (d : decode cc pc = .ok (.new idx, 3))
    (k : V x nL (ku K z (ci + 1)) (z + 1) (600 * (z + 1)) (z + 1) (newI ci z g) (pc + 3) L (.ref (xb x + z) :: st)) : V x nL K z (600 * z) z g pc L st := by
  have hMX : MX = 12000 := rfl
  exact V_new hX hc hin ty0 hty hci hN hcl hinst hini hdef (hAA _ (Nat.le_add_right _ _)) ⟨by show z + 1 ≤ 601024; omega, by show 600 * z + N ≤ 7293034; omega⟩ d (V_widen (Nat.le_refl _) (by omega) k)
theorem V_callIR {wf : Bool} {a : β} (hX : XOK x cc nL own ret room_1) (hAA : ∀ q, xb x ≤ q → x.2.1.2.2.2.2.2 q) (hm : z ≤ MX) (hM : ConA wf z y bytes maxL none fr lo K as g v (.inr a)) (hl : Cond.methodLink own idx y ∈ lw_all) (hinst : Cond.instanceMethod y ∈ lw_all) (hini : Cond.initialized y.cls ∈ lw_all) (hcode : Cond.code y bytes maxL none ∈ lw_all)
    (hd : y.name = "<init>" ∧ y.cls ≠ "java/lang/invoke/MethodHandle" ∧ y.cls ≠ "java/lang/invoke/VarHandle" ∧ (parseMethodDescriptor y.desc).map (fun d => d.parameters.length) = some n) (hR : fr + 1 ≤ 8192 ∧ 8 + (maxL + 11) + lo ≤ 100000)
    (ha : as (xb x) = .ref (xb x + o) :: As) (hn : As.length = n) (hc : (rest.map fun v => v.category).sum ≤ 8) (d : decode cc pc = .ok (.invokespecial idx, 3))
    (h0 : s0 = As.reverse ++ .ref (xb x + o) :: rest) (h1 : ((v a).1 (xb x)).toList ++ rest = s1)
    (k : KS wf K z (v a).2.1 (v a).2.2.1 → V x nL (v a).2.1 (v a).2.2.1 (600 * (v a).2.2.1) (v a).2.2.1 (v a).2.2.2 (pc + 3) L s1) : V x nL K z (600 * z) z g pc L s0 := by
  subst h0 h1
  obtain ⟨hx, hb, hml, hown, hts, hr, hlk, hKK, hrm, hSF, hAb, hfl⟩ := hX
  intro H locs ls hS hl'
  have hsz0 : H.size = xb x + z := hS.2.2.1
  have hMX : MX = 12000 := rfl
  have hAN : ∀ q, AKN (xb x) K z q → x.2.1.2.2.2.2.2 q := fun q hq => hAA q (AKN_le q hq)
  intro T0 hT X0
  rcases vx_runI (As := As) (rest := rest) ⟨hx, hb, hml, hown, hts⟩ (hM x.1.2.1 x.2.2.1 x.2.2.2.1 (xb x) hfl) (cwI n hts (lw_meth hcode) rfl rfl rfl (hts _ hini) (hts _ hl) (hts _ hinst) hd.1 hd.2 (by rw [hrm]; exact hR)) ⟨WU.blind, fun U hU hW => ⟨by rw [ha], ⟨by rw [hU]; exact hS.1, va_K.moved hW.alike hKK, by rw [hU]; exact hS.2.2.1⟩, by rw [hU]; exact hSF.on hW hAb hS.2.2.2⟩⟩ rfl hn hl'.1 rfl (lv_room hc) d (by rw [hrm]; exact ⟨by show z + (MX - z) ≤ 601024; omega, by show 600 * z + 600 * (MX - z) ≤ 7293034; omega⟩) T0 hT X0 with ⟨v', st₀, t, T', L', h0, X', hL, e1, e2, ⟨⟨hv, hW, hF⟩, hKS⟩, st⟩ | ⟨q, st₀, t, T', L', E, ce, h0, X', hL, e1, e2, hq, hce, hcv, hcl, st⟩
  · cases hv
    obtain ⟨k1, k2, k3⟩ := vx_keep h0 e1 hS.2.2.2 (fun q _ hq => hAN q hq) hAN hL hF
    have hsz : T'.heap.size = xb x + (v a).2.2.1 := by rw [e1]; exact hW.2.2
    have hle := hKS.1
    obtain ⟨t2, a1, b1⟩ := k hKS T'.heap (locs ++ L') ls ⟨by rw [e1]; exact hW.1, fun o' ho' => hAA _ (Nat.le_add_right _ _), hsz, k3⟩ hl' T' rfl (stand_widen X' (by show z + ((v a).2.2.1 - z) ≤ (v a).2.2.1; omega) (by show 600 * z + 600 * ((v a).2.2.1 - z) ≤ 600 * (v a).2.2.1; omega))
    exact ⟨t2, st t2 a1, b1⟩
  · exact hq.elim
/-- the model is made beside RainWheel's cells -/
theorem V_initM {N : Nat} (hX : XOK x cc nL own ret room_1) (hAA : ∀ q, xb x ≤ q → x.2.1.2.2.2.2.2 q) (hK0 : ∀ o, 350 ≤ o → K o = 0) (hm : m_init N (newI 26 0 g00) = some gm) (hl : Cond.methodLink own idx yX10_init ∈ lw_all) (hd : yX10_init.name = "<init>" ∧ yX10_init.cls ≠ "java/lang/invoke/MethodHandle" ∧ yX10_init.cls ≠ "java/lang/invoke/VarHandle" ∧ (parseMethodDescriptor yX10_init.desc).map (fun d => d.parameters.length) = some 0)
    (hinst : Cond.instanceMethod yX10_init ∈ lw_all) (hini : Cond.initialized yX10_init.cls ∈ lw_all) (hcode : Cond.code yX10_init cX10_init 1 none ∈ lw_all)
    (hdef : ∀ j, j < 73 → (lt_ 26 j).1 = 0 ∧ defaultValue (tyX10 j) = .int 0 ∨ (3 ≤ (lt_ 26 j).1 ∧ defaultValue (tyX10 j) = .null)) (hc : (rest.map fun v => v.category).sum ≤ 8) (d : decode cc pc = .ok (.invokespecial idx, 3))
    (k : VM x nL K 393 g gm (pc + 3) L rest) : V x nL (ku K 350 27) 351 (600 * 351) 351 (newI 26 350 g) pc L (.ref (xb x + 350) :: rest) := by
  obtain ⟨hx, hb, hml, hown, hts, hr, hlk, hKK, hrm, hSF, hAb, hfl⟩ := hX
  intro H locs ls hS hl'
  have hC := con_m_init N K27 rfl (fun o ho => if_neg (by omega)) (newI 26 0 g00) gm hm x.1.2.1 x.2.2.1 x.2.2.2.1 (xb x + 350) hfl
  have hWm : Wd x.2.2.1 x.2.2.2.1 (xb x + 350) K27 (newI 26 0 g00) H := by
    intro o
    by_cases e : o = 0
    · subst e
      refine ⟨fun ci hc e => ?_, fun t n ht hn e => ?_, fun t n h4 ht hn e => ?_, fun i hi e => ?_⟩
      · have e2 : ci = 26 := by
          have e : 27 = ci + 1 := e
          omega
        subst e2
        obtain ⟨r, h1, h2⟩ := (hS.1 350).1 26 (by decide) ku_self
        cases (show clT[26]? = some (RX10, TX10, 73) from rfl).symm.trans h1
        refine ⟨_, rfl, h2.to fun j hj => ?_⟩
        exact (fv_newI (Nat.lt_trans hj (by decide)) (hdef j hj)).trans (fv_newI (Nat.lt_trans hj (by decide)) (hdef j hj)).symm
      · have e : 27 = 10000 * (t + 1) + n := e
        omega
      · have e : 27 = 10000 * (t + 1) + n := e
        omega
      · have e : 27 = 200 + i := e
        omega
    · rw [show K27 o = 0 from if_neg e]
      exact cOK.none
  have hsz0 : H.size = xb x + 351 := hS.2.2.1
  have hAm : ∀ q, AKN (xb x + 350) K27 1 q → xb x + 350 ≤ q := fun q hq => AKN_le q hq
  refine call_QR (va_runI (As := []) (rest := rest) ⟨hx, hb, hml, hown, hts⟩ hC (cwI 0 hts (lw_meth hcode) rfl rfl rfl (hts _ hini) (hts _ hl) (hts _ hinst) hd.1 hd.2 (by rw [hrm]; exact ⟨Nat.le_of_ble_eq_true rfl, Nat.le_of_ble_eq_true rfl⟩)) ⟨WU.blind, fun U hU hW => ⟨rfl, ⟨by rw [hU]; exact hWm, va_K.moved hW.alike hKK, by rw [hU, hsz0]⟩, by rw [hU]; exact (hSF.on hW hAb hS.2.2.2).wide (Nat.le_add_right _ _)⟩⟩ rfl rfl hl'.1 rfl (lv_room hc) d (by rw [hrm]; exact ⟨Nat.le_of_ble_eq_true rfl, Nat.le_of_ble_eq_true rfl⟩)) hS.2.2.2 (fun q _ hq => hAA q (Nat.le_trans (Nat.le_add_right _ _) (hAm q hq))) (fun q hq => hAA q (Nat.le_trans (Nat.le_add_right _ _) (hAm q hq))) fun t H1 locs1 ht hvm hB hz hk hS1 => ?_
  rw [WU, ht] at hB
  refine W.widen (Nat.le_of_ble_eq_true rfl) (Nat.le_of_ble_eq_true rfl) (k H1 locs1 ls ⟨fun o => ?_, fun o _ => hAA _ (Nat.le_add_right _ _), by rw [hB.2.2], hS1⟩ hB.1 hl')
  by_cases e : K o = 0
  · rw [e]
    exact cOK.none
  · have hlt : o < 350 := Nat.not_le.mp fun h => e (hK0 o h)
    have h1 := hS.1 o
    rw [ku_ne (by omega)] at h1
    refine h1.kept (hk _ (by rw [hsz0]; exact Nat.add_lt_add_left (by omega) _) (fun h => ?_)) (fun f => ?_) (fun k => rfl)
    · have h2 : xb x + 350 ≤ xb x + o := hAm _ h
      omega
    · rw [gI_newI, if_neg (fun h => by omega)]
theorem VM_newarrL {N : Nat} (hX : XOK x cc nL own ret room_1) (hAA : ∀ q, xb x ≤ q → x.2.1.2.2.2.2.2 q) (hz : z + 1 ≤ MX) (hw : Cond.arrayClass .long ∈ lw_all) (hN : N ≤ 600) (d : decode cc pc = .ok (.newarray .long, 2))
    (k : VM x nL (ku K z (40000 + N)) (z + 1) (newA z 0 g) gm (pc + 2) L (.ref (xb x + z) :: st)) : VM x nL K z g gm pc L (vI N :: st) := by
  obtain ⟨hx, hb, hml, hown, hts, hr, hlk, hKK, hrm, hSF, hAb, hfl⟩ := hX
  intro H locs ls hS hM hl'
  have hMX : MX = 12000 := rfl
  have zn : (Int32.ofInt (N : Int)).toInt = N := w32_of (by omega) (by omega)
  have hs : H.size = xb x + z := hS.2.2.1
  refine va_newaK (atype := .long) hx hb (hts _ hw) rfl d rfl (N := N) (fun q => by
      have q2 := lt0_iff32.mp q
      unfold w32 at q2
      omega) (by show ((Int32.ofInt (N : Int)).toInt).toNat = N; rw [zn]; rfl) (by show N * 8 ≤ _; omega) (by rw [hrm]; show z + 1 ≤ 601024; omega) (by rw [hrm]; show 600 * z + N ≤ 7293034; omega) hs fun H1 cA e1 z1 o1 hAr hNm => ?_
  have hcA : cA = x.2.2.2.1 3 := Option.some.inj (hNm.symm.trans (hKK.2 3 _ rfl).2)
  subst hcA
  refine W.widen (Nat.le_refl _) (show 600 * z + N ≤ 600 * (z + 1) by omega) (k H1 locs ls ⟨hS.1.made hs o1 (fun f o ho => rfl) (fun o k ho => by rw [gA_newA, if_neg ho]) ⟨fun ci' hc' e' => by omega, fun t' n' ht' hn' e' => ?_, fun t' n' h4 ht' hn' e' => by omega, fun i hi e' => by omega⟩, fun o ho => hAA _ (Nat.le_add_right _ _), by rw [z1]; omega, ⟨by rw [z1, ← hs]; exact Nat.le_succ_of_le hS.2.2.2.1, fun q h1 h2 => by rw [o1 q (by rw [← hs]; exact Nat.lt_of_lt_of_le h1 hS.2.2.2.1)]; exact hS.2.2.2.2.1 q h1 h2, hS.2.2.2.2.2⟩⟩ (fun o => (hM o).lt (fun q hq => o1 q (by rw [← hs]; exact hq))) hl')
  have e2 : t' = 3 := by omega
  have e3 : n' = N := by omega
  subst e2 e3
  rw [e1]
  show some (arrV _ n' _) = some (arrV (x.2.2.2.1 3) n' (fun j => .long (Int64.ofInt (gA (newA z 0 g) z j))))
  congr 2
  funext j
  rw [gA_newA, if_pos rfl]
  rfl
theorem WFK_of (h : ∀ i, i < 350 → K i = kx0 i) (h0 : ∀ o, 350 ≤ o → K o = 0) : WFK K := by
  refine ⟨h, fun o ci hc hK j hj hn => ?_⟩
  have ho : o < 350 := Nat.not_le.mp fun q => by
    have := h0 o q
    omega
  have e : kx0 o = ci + 1 := (h o ho).symm.trans hK
  have e2 : blkK (kx0 o - 1) = blkK ci := by rw [e, Nat.add_sub_cancel]
  have h3 := kx_blk o ho j (by rw [e2]; exact hj) (by rw [e2]; exact hn)
  rw [e2] at h3
  rw [h _ h3.1]
  exact h3.2
theorem WFK_ku {kd : Nat} (h : WFK K) (hz : 350 ≤ z) (h0 : K z = 0) (hb : blkK (kd - 1) = []) : WFK (ku K z kd) := by
  refine ⟨fun i hi => ?_, fun o ci hc hK j hj hn => ?_⟩
  · rw [ku_ne (by omega)]
    exact h.1 i hi
  · by_cases e : o = z
    · subst e
      rw [ku_self] at hK
      subst hK
      rw [Nat.add_sub_cancel] at hb
      rw [hb] at hj
      exact absurd hj (Nat.not_lt_zero _)
    · rw [ku_ne e] at hK
      have h1 := h.2 o ci hc hK j hj hn
      rw [ku_ne (fun e2 => hn (by rw [← h1, e2]; exact h0))]
      exact h1
/-- the loop over the script -/
theorem law_loop {R : Nat → (Nat → Nat) → Nat → GS → GS → Prop} {N : Nat} (hX : XM_ x code 8 RX0 (some .boolean) b0 Ls xs)
    (hend : ∀ (H : Heap) (locs : List Loc) (ls : Array Slot) (z : Nat), z ≤ MX → (∀ q ∈ locs, x.2.1.2.2.2.2.2 q.base) → W x.1.1 x.1.2.1 x.1.2.2.1 x.1.2.2.2.1 x.1.2.2.2.2.1 x.1.2.2.2.2.2 x.2.1.1 x.2.1.2.1 x.2.1.2.2.1 x.2.1.2.2.2.1 H locs z (600 * z) x.2.1.2.2.2.2.1 (F0 x.1.2.2.2.2.2 2925 ls [vI 1]))
    (hT : ∀ (t : Nat) (K : Nat → Nat) (z : Nat) (g gm : GS) (v a1 a2 a3 a4 a5 a6 : Int), t < 64 → w32 a1 = a1 → w32 a2 = a2 → w32 a3 = a3 → w32 a4 = a4 → w32 a5 = a5 → w32 a6 = a6 → R t K z g gm → KI K z → ∃ r, lcI v N K z g gm a1 a2 a3 a4 a5 a6 = some r ∧ R (t + 1) r.1.1 r.1.2.1 r.1.2.2 r.2) :
    ∀ (n t : Nat) (K : Nat → Nat) (z : Nat) (g gm : GS), 7 * (n + t) ≤ Ls + 7 → Ls < 7 * (n + t) + 7 → R t K z g gm → KI K z → VM x 8 K z g gm 23 [(4, vI ((7 * t : Nat) : Int)), (0, .ref b0), (1, .ref (xb x + 0)), (2, .ref (xb x + 350)), (3, .ref (xb x + 393))] [] := by
  intro n
  have X := hX.1
  have hLs := hX.2.2.2.2.2
  induction n with
  | zero =>
    intro t K z g gm h1 h2 hR hKI
    refine VM_iload X dL_law_23 0 rfl ?_
    refine VM_aload_n X dL_law_25 1 rfl ?_
    refine VM_slen hX dL_law_26 ?_
    refine VM_bipush X dL_law_27 (by decide) ?_
    refine VM_isub X dL_law_29 ?_
    refine VM_icmp_gt (tgt := 2924) (T := some ()) (F := none) (r := ()) X dL_law_30 (by decide) (if_pos (by rw [w32_of (by omega) (by omega), w32_of (by omega) (by omega)]; omega)) (fun _ => ?_) (fun h => by cases h)
    refine VM_iconst X dL_law_2924 ?_
    exact fun H locs ls hS hM hl => hend H locs ls z hKI.2.1 hS.2.2.2.2.2
  | succ n ih =>
    intro t K z g gm h1 h2 hR hKI
    by_cases hgt : Ls < 7 * t + 7
    · refine VM_iload X dL_law_23 0 rfl ?_
      refine VM_aload_n X dL_law_25 1 rfl ?_
      refine VM_slen hX dL_law_26 ?_
      refine VM_bipush X dL_law_27 (by decide) ?_
      refine VM_isub X dL_law_29 ?_
      refine VM_icmp_gt (tgt := 2924) (T := some ()) (F := none) (r := ()) X dL_law_30 (by decide) (if_pos (by rw [w32_of (by omega) (by omega), w32_of (by omega) (by omega)]; omega)) (fun _ => ?_) (fun h => by cases h)
      refine VM_iconst X dL_law_2924 ?_
      exact fun H locs ls hS hM hl => hend H locs ls z hKI.2.1 hS.2.2.2.2.2
    · refine VM_iload X dL_law_23 0 rfl ?_
      refine VM_aload_n X dL_law_25 1 rfl ?_
      refine VM_slen hX dL_law_26 ?_
      refine VM_bipush X dL_law_27 (by decide) ?_
      refine VM_isub X dL_law_29 ?_
      refine VM_icmp_gt (tgt := 2924) (T := none) (F := some ()) (r := ()) X dL_law_30 (by decide) (if_neg (by rw [w32_of (by omega) (by omega), w32_of (by omega) (by omega)]; omega)) (fun h => by cases h) (fun _ => ?_)
      refine VM_aload_n X dL_law_33 1 rfl ?_
      refine VM_iload X dL_law_34 0 rfl ?_
      refine VM_sld (7 * t) hX (by omega) (w32_of (by omega) (by omega)) dL_law_36 ?_
      refine VM_bipush X dL_law_37 (by decide) ?_
      refine VM_iand X dL_law_39 ?_
      have hc : ∀ k, w32 (xs k).toInt = (xs k).toInt := fun k => by
        unfold w32
        rw [Int32.ofInt_toInt]
      obtain ⟨r, hr, hR'⟩ := hT t K z g gm (i_and (xs (7 * t)).toInt 63) (xs (7 * t + 1)).toInt (xs (7 * t + 2)).toInt (xs (7 * t + 3)).toInt (xs (7 * t + 4)).toInt (xs (7 * t + 5)).toInt (xs (7 * t + 6)).toInt (by omega) (hc _) (hc _) (hc _) (hc _) (hc _) (hc _) hR hKI
      refine law_switch hX N K z g gm hKI (7 * t) (by omega) _ r hr (fun hKI' => ?_)
      refine VM_iinc X dL_law_2918 0 rfl (by decide) (L' := [(4, vI (((7 * t : Nat) : Int) + 7)), (0, .ref b0), (1, .ref (xb x + 0)), (2, .ref (xb x + 350)), (3, .ref (xb x + 393))]) rfl ?_
      refine VM_goto (tgt := 23) X dL_law_2921 (by decide) ?_
      have h9 := ih (t + 1) r.1.1 r.1.2.1 r.1.2.2 r.2 (by omega) (by omega) hR' hKI'
      rwa [show ((7 * (t + 1) : Nat) : Int) = ((7 * t : Nat) : Int) + 7 by omega] at h9
end ENGZ
