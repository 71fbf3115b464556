/-! ENGINE 5: objects that refer to objects; nest mates; copies; Math -/
set_option maxRecDepth 100000
/-- a reference that a field holds, of a known kind -/
def rdR (K : Nat → Nat) (g : GS) (f o kd : Nat) : Option Nat := if 0 ≤ gI g f o ∧ K (gI g f o).toNat = kd then some (gI g f o).toNat else none
def rdQ (K : Nat → Nat) (g : GS) (id n : Nat) (i : Int) (kd : Nat) : Option Nat := if (0 ≤ w32 i ∧ w32 i < n) ∧ 0 ≤ gA g id (w32 i).toNat ∧ K (gA g id (w32 i).toNat).toNat = kd then some (gA g id (w32 i).toNat).toNat else none
/-- n places copied from one array to another, from their starts -/
def cpA (g : GS) (src dst n : Nat) : GS := (g.1, fun o k => if o = dst ∧ k < n then gA g src k else gA g o k)
theorem gA_cpA (g : GS) (s d n o k : Nat) : gA (cpA g s d n) o k = if o = d ∧ k < n then gA g s k else gA g o k := rfl
theorem gI_cpA (g : GS) (s d n f o : Nat) : gI (cpA g s d n) f o = gI g f o := rfl
def imax (a b : Int) : Int := if w32 a < w32 b then b else a
def imin (a b : Int) : Int := if w32 b < w32 a then b else a
def iabs (a : Int) : Int := if 0 ≤ w32 a then a else -a
def i_ushr (a b : Int) : Int := ((Int32.ofInt a).toUInt32 >>> ((Int32.ofInt b).toUInt32 &&& Int32.toUInt32 31)).toInt32.toInt
theorem rdR_some {K : Nat → Nat} {g : GS} {f o kd : Nat} {α : Type} {F : Nat → Option α} {r : α} (h : (rdR K g f o kd).bind F = some r) : ∃ i : Nat, gI g f o = i ∧ K i = kd ∧ F i = some r := by
  obtain ⟨i, h1, h2⟩ := bind_some_eq h
  unfold rdR at h1
  split at h1
  · rename_i q
    cases h1
    exact ⟨_, by omega, q.2, h2⟩
  · cases h1
theorem rdQ_some {K : Nat → Nat} {g : GS} {id n kd : Nat} {j : Int} {α : Type} {F : Nat → Option α} {r : α} (h : (rdQ K g id n j kd).bind F = some r) : ∃ i : Nat, (0 ≤ w32 j ∧ w32 j < n) ∧ gA g id (w32 j).toNat = i ∧ K i = kd ∧ F i = some r := by
  obtain ⟨i, h1, h2⟩ := bind_some_eq h
  unfold rdQ at h1
  split at h1
  · rename_i q
    cases h1
    exact ⟨_, q.1, by omega, q.2.2, h2⟩
  · cases h1
theorem fv_3i {b : Nat} {g : GS} {o ci j i : Nat} (h : (lt_ ci j).1 = 3) (e : gI g (100 * ci + j) o = i) : fv b g o ci j = .ref (b + i) := by
  rw [fv_3 h, e]
  unfold rvo
  rw [if_neg (by omega)]
  rfl
section ENG7
variable {x : CT} {cc : ByteArray} {nL : Nat} {own : String} {ret : Option FieldType} {rm : Room} {K : Nat → Nat} {ce sl sz : Nat} {g : GS} {pc : Nat} {L : List (Nat × Value)} {st : List Value}
theorem nestF {i : Nat} {b n d h : String} (hX : XOK x cc nL own ret rm) (hq : Cond.fieldLinkNest own i b n d h ∈ lw_tbl) : (Cond.fieldLinkNest own i b n d h).before x.2.1.1 x.1.2.2.2.2.1 = true := by
  obtain ⟨u0, b0, h1, h2, h3, -⟩ := xok_sf hX
  exact va_Nw.use rfl (va_Nw.warmF h3 (va_Nw.of rfl (h2 _ hq)))
theorem nestM {i : Nat} {y : MethodName} {h : String} (hX : XOK x cc nL own ret rm) (hq : Cond.methodLinkNest own i y h ∈ lw_tbl) : va_Nw (Cond.methodLinkNest own i y h) x.1.2.2.2.2.1 := by
  obtain ⟨u0, b0, h1, h2, h3, -⟩ := xok_sf hX
  exact va_Nw.warmM h3 (va_Nw.of rfl (h2 _ hq))
theorem V_getN {o ci j idx N : Nat} {C host : String} {T : u_T} {v : Value} (hX : XOK x cc nL own ret rm) (hc : clT[ci]? = some (C, T, N)) (hin : ∀ w ∈ u_ws C T N, w ∈ lw_all) (hci : ci < 100) (hK : K o = ci + 1) (hj : j < N) (hl : Cond.fieldLinkNest own idx (T j).1 (T j).2.1 (T j).2.2.1 host ∈ lw_tbl) (hv : fv (xb x) g o ci j = v) (d : decode cc pc = .ok (.getfield idx, 3))
    (k : V x nL K ce sl sz g (pc + 3) L (v :: st)) : V x nL K ce sl sz g pc L (.ref (xb x + o) :: st) := by
  have hl2 := nestF hX hl
  obtain ⟨hx, hb, hml, hown, hts, hr, hlk, hKK, -⟩ := hX
  intro H locs ls hS hl'
  obtain ⟨r, h1, cell, q1, q2, q3, q4⟩ := (hS.1 o).1 ci hci hK
  cases hc.symm.trans h1
  obtain ⟨hS2, hfc, kC, hkC, hkind⟩ := hKK.1 ci _ hc
  obtain ⟨cf, kf, fi, f, hi, hsl⟩ := hS2 j hj
  refine va_Wgetf hx hb hown hl2 hi (u_facts hfc hkC (u_lays hts hin hj) hi).1 q1 (by rw [q3]; exact fun h => by cases h) (v := v) ?_ rfl rfl d (k H locs ls hS hl')
  rw [hsl, q4 j hj, hv]
theorem V_putN {o ci j idx N : Nat} {C host : String} {T : u_T} {a : Int} {v : Value} {ty : FieldType} (hX : XOK x cc nL own ret rm) (hc : clT[ci]? = some (C, T, N)) (hin : ∀ w ∈ u_ws C T N, w ∈ lw_all) (ty0 : Nat → FieldType) (hty : ∀ k, k < N → parseFieldDescriptor (T k).2.2.1 = some (ty0 k)) (hnm : ∀ a, a < N → ∀ b, b < N → a ≠ b → (T a).2.1 ≠ (T b).2.1) (hci : ci < 100) (hK : K o = ci + 1) (hj : j < N) (hfin : (T j).2.2.2 = false) (hd : parseFieldDescriptor (T j).2.2.1 = some ty) (hn : narrow ty v = v) (hfit : fits ty v = true) (hl : Cond.fieldLinkNest own idx (T j).1 (T j).2.1 (T j).2.2.1 host ∈ lw_tbl)
    (hv : fv (xb x) (sI g (100 * ci + j) o a) o ci j = v) (d : decode cc pc = .ok (.putfield idx, 3))
    (k : V x nL K ce sl sz (sI g (100 * ci + j) o a) (pc + 3) L st) : V x nL K ce sl sz g pc L (v :: .ref (xb x + o) :: st) := by
  have hl2 := nestF hX hl
  obtain ⟨hx, hb, hml, hown, hts, hr, hlk, hKK, -⟩ := hX
  intro H locs ls hS hl'
  have hap := va_apart (own := own) hts hin ty0 hty hnm hKK hc
  obtain ⟨r, h1, cell, q1, q2, q3, q4⟩ := (hS.1 o).1 ci hci hK
  cases hc.symm.trans h1
  obtain ⟨hS2, hfc, kC, hkC, hkind⟩ := hKK.1 ci _ hc
  obtain ⟨cf, kf, fi, f, hi, hsl⟩ := hS2 j hj
  have hlay := hts _ (hin _ (u_in_lay hj))
  unfold u_lay at hlay
  rw [if_neg (by rw [hfin]; decide)] at hlay
  have hst := (u_facts hfc hkC (u_lays hts hin hj) hi).1
  have h6 := u_store hfc hkC hkind hlay hi hd hn hfit
  refine va_WputK hx hb (f := f) hown hl2 hi hst (by rw [q2]; exact h6) q1 q3 (by rw [hsl]; exact k2_hasslot (q4 j hj)) rfl rfl d fun H' e1 e2 e3 => ?_
  rw [hsl] at e1 ⊢
  exact k H' _ ls ⟨hS.1.put hci hK hc hv ⟨_, e1, q2, q3, t_set q4 hap hj v⟩ e3, hS.2.1, e2.trans hS.2.2.1, hS.2.2.2.put e2 e3 (hS.2.1 o (by rw [hK]; omega))⟩ hl'
theorem V_aald {o t n i : Nat} {j : Int} (hX : XOK x cc nL own ret rm) (ht : 4 ≤ t) (ht8 : t < 8) (hK : K o = 10000 * (t + 1) + n) (hn : n < 10000) (hin : 0 ≤ w32 j ∧ w32 j < n) (hv : gA g o (w32 j).toNat = i) (d : decode cc pc = .ok (.aaload, 1)) (k : V x nL K ce sl sz g (pc + 1) L (.ref (xb x + i) :: st)) : V x nL K ce sl sz g pc L (vI j :: .ref (xb x + o) :: st) := by
  obtain ⟨hx, hb, hml, hown, hts, hr, hlk, hKK, -⟩ := hX
  intro H locs ls hS hl'
  have hc := (hS.1 o).2.2.1 t n ht ht8 hn hK
  have hval : (arrV (x.2.2.2.1 t) n (fun k => va_rf (rvo (xb x) (gA g o k)))).slots[(w32 j).toNat]? = some (.ref (xb x + i)) := by
    rw [arrV_read _ _ (inb_lt hin), hv]
    unfold rvo
    rw [if_neg (by omega)]
    rfl
  have go : ∀ (ty : FieldType), refKind ty = true → x.1.2.2.2.2.1.isArrayOf (arrV (x.2.2.2.1 t) n (fun k => va_rf (rvo (xb x) (gA g o k)))) ty → W x.1.1 x.1.2.1 x.1.2.2.1 x.1.2.2.2.1 x.1.2.2.2.2.1 x.1.2.2.2.2.2 x.2.1.1 x.2.1.2.1 x.2.1.2.2.1 x.2.1.2.2.2.1 H locs ce sl x.2.1.2.2.2.2.1 (F0 x.1.2.2.2.2.2 pc ls (vI j :: .ref (xb x + o) :: st)) := fun ty hty ha =>
    W.aald (v := .ref (xb x + i)) (ty := ty) hx hb hc (by rw [vp_cell_q]; exact ha) hty (fun q => by cases q) (by rw [vp_cell_q, arrV_size]; exact inb_of hin) (by rw [vp_cell_q]; exact hval) rfl rfl d (k H locs ls hS hl')
  rcases (show t = 4 ∨ t = 5 ∨ t = 6 ∨ t = 7 by omega) with e | e | e | e
  · subst e
    exact go _ rfl ((hKK.2 4 _ rfl).1 n _)
  · subst e
    exact go _ rfl ((hKK.2 5 _ rfl).1 n _)
  · subst e
    exact go _ rfl ((hKK.2 6 _ rfl).1 n _)
  · subst e
    exact go _ rfl ((hKK.2 7 _ rfl).1 n _)
theorem V_iushr (hX : XOK x cc nL own ret rm) {a b : Int} (d : decode cc pc = .ok (.iushr, 1)) (k : V x nL K ce sl sz g (pc + 1) L (vI (i_ushr a b) :: st)) : V x nL K ce sl sz g pc L (vI b :: vI a :: st) := by
  obtain ⟨hx, hb, -⟩ := hX
  exact fun H locs ls hS hl => lv_iushr hx hb d (Int32.ofInt_toInt _).symm (k H locs ls hS hl)
theorem V_ifnonnull {i : Nat} {off : Int} {tgt : Nat} (hX : XOK x cc nL own ret rm) (d : decode cc pc = .ok (.ifnonnull off, 3)) (ht : (pc : Int) + off = (tgt : Int)) (k : V x nL K ce sl sz g tgt L st) : V x nL K ce sl sz g pc L (.ref i :: st) := by
  obtain ⟨hx, hb, -⟩ := hX
  exact fun H locs ls hS hl => lv_ifnonnull hx hb d ht (k H locs ls hS hl)
theorem V_tswIn {dflt lo hi : Int} {offs : Array Int} {len : Nat} {a off : Int} {tgt : Nat} (z : Int) (hX : XOK x cc nL own ret rm) (d : decode cc pc = .ok (.tableswitch dflt lo hi offs, len)) (hz : w32 a = z) (h1 : lo ≤ z) (h2 : z ≤ hi) (ho : offs[(z - lo).toNat]? = some off) (ht : (pc : Int) + off = (tgt : Int)) (k : V x nL K ce sl sz g tgt L st) : V x nL K ce sl sz g pc L (vI a :: st) := by
  obtain ⟨hx, hb, -⟩ := hX
  have e : (Int32.ofInt a).toInt = z := hz
  exact fun H locs ls hS hl => lv_tableIn hx hb d (by rw [e]; omega) (by rw [e]; omega) (by rw [e]; exact ho) ht (k H locs ls hS hl)
theorem V_tswOut {dflt lo hi : Int} {offs : Array Int} {len : Nat} {a : Int} {tgt : Nat} (hX : XOK x cc nL own ret rm) (d : decode cc pc = .ok (.tableswitch dflt lo hi offs, len)) (h : w32 a < lo ∨ hi < w32 a) (ht : (pc : Int) + dflt = (tgt : Int)) (k : V x nL K ce sl sz g tgt L st) : V x nL K ce sl sz g pc L (vI a :: st) := by
  obtain ⟨hx, hb, -⟩ := hX
  exact fun H locs ls hS hl => lv_tableOut hx hb d h ht (k H locs ls hS hl)
/-- System.arraycopy of n ints from the start of one array to the start of another -/
theorem V_acopy {s0 d0 n0 n1 n idx : Nat} (hX : XOK x cc nL own ret rm) (hl : Cond.methodLink own idx arraycopyName ∈ lw_all) (hK0 : K s0 = 10000 + n0) (hn0 : n0 < 10000) (hK1 : K d0 = 10000 + n1) (hn1 : n1 < 10000) (h0 : n ≤ n0) (h1 : n ≤ n1) (hfr : 1 ≤ rm.frames) (hlo : 60 ≤ rm.locals) (d : decode cc pc = .ok (.invokestatic idx, 3)) (k : V x nL K ce sl sz (cpA g s0 d0 n) (pc + 3) L []) : V x nL K ce sl sz g pc L [vI n, vI 0, .ref (xb x + d0), vI 0, .ref (xb x + s0)] := by
  obtain ⟨⟨p, l, e, R, s, m⟩, ⟨args, below, meth, c, Q, A⟩, ⟨D, dA, b⟩⟩ := x
  obtain ⟨hx, hb, hml, hown, hts, hr, hlk, hKK, hrm, -⟩ := hX
  have hrm : R = rm := hrm
  subst hrm
  intro H locs ls hS hl' T hT X
  have hx : p.tables.exec = Jvm.exec := hx
  have hb : c.code = cc := hb
  have hml : c.maxLocals = nL := hml
  have hown : s.vm.findClass own = some m.cls := hown
  have hc0 : H[b + s0]? = some (vp_cell (dA 0) (n0, .inl fun k => Int32.ofInt (gA g s0 k))) := (hS.1 s0).i 0 n0 (by omega) hn0 (by rw [hK0])
  have hc1 : H[b + d0]? = some (vp_cell (dA 0) (n1, .inl fun k => Int32.ofInt (gA g d0 k))) := (hS.1 d0).i 0 n1 (by omega) hn1 (by rw [hK1])
  obtain ⟨-, k0, hk0, cm0, hkk0⟩ := (hKK.2 0 _ rfl).1 n0 (fun j => .int (Int32.ofInt (gA g s0 j)))
  obtain ⟨-, k1, hk1, cm1, hkk1⟩ := (hKK.2 0 _ rfl).1 n1 (fun j => .int (Int32.ofInt (gA g d0 j)))
  have z0 : ¬ Int32.ofInt 0 < 0 := by decide
  have zn : (Int32.ofInt (n : Int)).toInt = n := w32_of (by omega) (by omega)
  have hn : ¬ Int32.ofInt (n : Int) < 0 := fun q => by
    have q2 := lt0_iff32.mp q
    unfold w32 at q2
    omega
  have zc : (Int32.ofInt (n : Int)).toNatClampNeg = n := by
    show ((Int32.ofInt (n : Int)).toInt).toNat = n
    rw [zn]
    rfl
  have hz0 : (Int32.ofInt 0).toInt = 0 := by decide
  have hz1 : (Int32.ofInt 0).toNatClampNeg = 0 := by decide
  obtain ⟨vm', X', step⟩ := X.arraycopy hx hown (hts _ hl) (hts _ q689) (hts _ q688) (hts _ q122) (src := b + s0) (dst := b + d0) (cs := vp_cell (dA 0) (n0, .inl fun k => Int32.ofInt (gA g s0 k))) (cd := vp_cell (dA 0) (n1, .inl fun k => Int32.ofInt (gA g d0 k))) (srcPos := Int32.ofInt 0) (destPos := Int32.ofInt 0) (n := Int32.ofInt n) (by rw [hT]; exact hc0) (by rw [hT]; exact hc1)
    (fun _ h => by cases h) (fun _ h => by cases h) (fun h => by cases h) (fun h => by cases h) hk0 hk1 hkk0 hkk1 (by simp [refKind]) z0 z0 hn
    (by rw [hz0, zn]; show ¬ _ > ((arrV (dA 0) n0 (fun j => .int (Int32.ofInt (gA g s0 j)))).slots.size : Int); rw [arrV_size]; omega)
    (by rw [hz0, zn]; show ¬ _ > ((arrV (dA 0) n1 (fun j => .int (Int32.ofInt (gA g d0 j)))).slots.size : Int); rw [arrV_size]; omega)
    (fun vm₁ _ i hi => by
      rw [zc] at hi
      have e : (vp_cell (dA 0) (n0, .inl fun k => Int32.ofInt (gA g s0 k))).slots.getD ((Int32.ofInt 0).toNatClampNeg + i) .null = .int (Int32.ofInt (gA g s0 i)) := by
        show (arrV (dA 0) n0 (fun j => .int (Int32.ofInt (gA g s0 j)))).slots.getD _ _ = _
        rw [hz1, Nat.zero_add, Array.getD_eq_getD_getElem?, arrV_read _ _ (by omega)]
        rfl
      refine ⟨?_, ?_⟩
      · rw [e]
        rfl
      · rw [e]
        exact trivial)
    (g := F0 m pc ls [vI n, vI 0, .ref (b + d0), vI 0, .ref (b + s0)]) rfl (by rw [hml]; exact hl'.1) (rest := []) rfl (by rw [hb]; exact d) hfr (by show 2 * 0 + 0 + _ ≤ R.locals; have h9 : nativeFrameWords "java/lang/System" "arraycopy" 5 + 11 ≤ 60 := (by decide); omega)
  have e1 : copied (vp_cell (dA 0) (n0, .inl fun k => Int32.ofInt (gA g s0 k))) (vp_cell (dA 0) (n1, .inl fun k => Int32.ofInt (gA g d0 k))) (Int32.ofInt 0) (Int32.ofInt 0) (Int32.ofInt n) = vp_cell (dA 0) (n1, .inl (va_cpy (fun k => Int32.ofInt (gA g s0 k)) (fun k => Int32.ofInt (gA g d0 k)) 0 0 n)) := by
    have e2 : copied (vp_cell (dA 0) (n0, .inl fun k => Int32.ofInt (gA g s0 k))) (vp_cell (dA 0) (n1, .inl fun k => Int32.ofInt (gA g d0 k))) (Int32.ofInt 0) (Int32.ofInt 0) (Int32.ofInt n) = vp_cell (dA 0) (n1, .inl (va_cpy (fun k => Int32.ofInt (gA g s0 k)) (fun k => Int32.ofInt (gA g d0 k)) (Int32.ofInt 0).toNatClampNeg (Int32.ofInt 0).toNatClampNeg (Int32.ofInt n).toNatClampNeg)) := va_copied (fun z => .int z) (dA 0) (dA 0) (fun k => Int32.ofInt (gA g s0 k)) (fun k => Int32.ofInt (gA g d0 k)) (by rw [hz1, zc]; omega)
    rw [hz1, zc] at e2
    exact e2
  rw [e1] at X' step
  have hlt : b + d0 < H.size := (Array.getElem?_eq_some_iff.mp hc1).1
  have hheap : ((T.setVm vm').setCell (b + d0) (vp_cell (dA 0) (n1, .inl (va_cpy (fun k => Int32.ofInt (gA g s0 k)) (fun k => Int32.ofInt (gA g d0 k)) 0 0 n)))).heap = H.setIfInBounds (b + d0) (vp_cell (dA 0) (n1, .inl (va_cpy (fun k => Int32.ofInt (gA g s0 k)) (fun k => Int32.ofInt (gA g d0 k)) 0 0 n))) := by rw [← hT]; rfl
  have oq : ∀ q : Nat, q ≠ b + d0 → (H.setIfInBounds (b + d0) (vp_cell (dA 0) (n1, .inl (va_cpy (fun k => Int32.ofInt (gA g s0 k)) (fun k => Int32.ofInt (gA g d0 k)) 0 0 n))))[q]? = H[q]? := fun q hq => by simp [Array.getElem?_setIfInBounds, Ne.symm hq]
  have hA : A (b + d0) := hS.2.1 d0 (by rw [hK1]; omega)
  have hW' : ∀ L0 : List Loc, (∀ q ∈ L0, q.base = b + d0) → WS ((p, l, e, R, s, m), (args, below, meth, c, Q, A), (D, dA, b)) K sz (cpA g s0 d0 n) (H.setIfInBounds (b + d0) (vp_cell (dA 0) (n1, .inl (va_cpy (fun k => Int32.ofInt (gA g s0 k)) (fun k => Int32.ofInt (gA g d0 k)) 0 0 n)))) (locs ++ L0) := by
    intro L0 hL0
    refine ⟨fun o' => ?_, hS.2.1, by rw [Array.size_setIfInBounds]; exact hS.2.2.1, ⟨by rw [Array.size_setIfInBounds]; exact hS.2.2.2.1, fun q g1 g2 => ?_, fun q hq => ?_⟩⟩
    · by_cases e : o' = d0
      · subst e
        refine ⟨fun ci' hc' e' => by omega, fun t' n' ht' hn' e => ?_, fun t n h4 ht hn e => by omega, fun i hi e => by omega⟩
        have e1 : t' = 0 := by omega
        have e2 : n' = n1 := by omega
        subst e1 e2
        show (H.setIfInBounds (b + o') _)[b + o']? = _
        rw [Array.getElem?_setIfInBounds, if_pos rfl, if_pos hlt, arrC_i (by decide)]
        congr 4
        funext k
        rw [gA_cpA]
        unfold va_cpy
        by_cases hk : k < n
        · rw [if_pos ⟨Nat.zero_le _, by omega⟩, if_pos ⟨rfl, hk⟩]
          congr 2
          omega
        · rw [if_neg (by omega), if_neg (fun z => hk z.2)]
      · refine (hS.1 o').kept (oq _ (fun z => e (Nat.add_left_cancel z))) (fun f => rfl) (fun k => ?_)
        rw [gA_cpA, if_neg (fun z => e z.1)]
    · rw [oq q (fun z => g2 (by rw [z]; exact hA))]
      exact hS.2.2.2.2.1 q g1 g2
    · rcases List.mem_append.mp hq with h | h
      · exact hS.2.2.2.2.2 q h
      · rw [hL0 q h]
        exact hA
  obtain ⟨t, a1, b1⟩ := k _ _ ls (hW' _ (fun q hq => by obtain ⟨z, -, hz⟩ := List.mem_map.mp hq; rw [← hz])) hl' _ hheap X'
  exact ⟨t, step t a1, b1⟩
end ENG7
section ENG8
variable {x : CT} {cc : ByteArray} {nL idx : Nat} {own : String} {ret : Option FieldType} {rm : Room} {K : Nat → Nat} {ce sl sz : Nat} {g : GS} {pc : Nat} {L : List (Nat × Value)} {st : List Value}
theorem ite_i {p q : Prop} [Decidable p] [Decidable q] (h : p ↔ q) (a b : Int) : (if p then Int32.ofInt a else Int32.ofInt b) = Int32.ofInt (if q then a else b) := by
  by_cases z : p
  · rw [if_pos z, if_pos (h.mp z)]
  · rw [if_neg z, if_neg (fun y => z (h.mpr y))]
theorem V_max (hX : XOK x cc nL own ret rm) {a b : Int} (hl : Cond.methodLink own idx Lib.Math.max.name ∈ lw_all) (hR : 1 ≤ rm.frames ∧ 21 ≤ rm.locals) (hc : (st.map fun v => v.category).sum ≤ 8) (hcc : ce ≤ rm.cells ∧ sl ≤ rm.slots) (d : decode cc pc = .ok (.invokestatic idx, 3)) (k : V x nL K ce sl sz g (pc + 3) L (vI (imax a b) :: st)) : V x nL K ce sl sz g pc L (vI b :: vI a :: st) := by
  obtain ⟨hx, hb, hml, hown, hts, hr, hlk, hKK, hrm, -⟩ := hX
  intro H locs ls hS hl'
  refine va_mmax hx hb (hml.trans hl'.1.symm) hown (hts _ hl) (hts _ q579) (hts _ q117) (hts _ q580) (by rw [hrm]; exact hR.1) (by rw [hrm]; omega) (by rw [hrm]; exact hcc.1) (by rw [hrm]; exact hcc.2) d ?_
  rw [ite_i lt_iff32]
  exact k H locs ls hS hl'
theorem V_min (hX : XOK x cc nL own ret rm) {a b : Int} (hl : Cond.methodLink own idx Lib.Math.min.name ∈ lw_all) (hR : 1 ≤ rm.frames ∧ 21 ≤ rm.locals) (hc : (st.map fun v => v.category).sum ≤ 8) (hcc : ce ≤ rm.cells ∧ sl ≤ rm.slots) (d : decode cc pc = .ok (.invokestatic idx, 3)) (k : V x nL K ce sl sz g (pc + 3) L (vI (imin a b) :: st)) : V x nL K ce sl sz g pc L (vI b :: vI a :: st) := by
  obtain ⟨hx, hb, hml, hown, hts, hr, hlk, hKK, hrm, -⟩ := hX
  intro H locs ls hS hl'
  refine va_mmin hx hb (hml.trans hl'.1.symm) hown (hts _ hl) (hts _ q623) (hts _ q117) (hts _ q624) (by rw [hrm]; exact hR.1) (by rw [hrm]; omega) (by rw [hrm]; exact hcc.1) (by rw [hrm]; exact hcc.2) d ?_
  rw [ite_i lt_iff32]
  exact k H locs ls hS hl'
theorem V_abs (hX : XOK x cc nL own ret rm) {a : Int} (hl : Cond.methodLink own idx Lib.Math.abs.name ∈ lw_all) (hR : 1 ≤ rm.frames ∧ 21 ≤ rm.locals) (hc : (st.map fun v => v.category).sum ≤ 8) (hcc : ce ≤ rm.cells ∧ sl ≤ rm.slots) (d : decode cc pc = .ok (.invokestatic idx, 3)) (k : V x nL K ce sl sz g (pc + 3) L (vI (iabs a) :: st)) : V x nL K ce sl sz g pc L (vI a :: st) := by
  obtain ⟨hx, hb, hml, hown, hts, hr, hlk, hKK, hrm, -⟩ := hX
  intro H locs ls hS hl'
  refine va_mabs hx hb (hml.trans hl'.1.symm) hown (hts _ hl) (hts _ q1340) (hts _ q117) (hts _ q1341) (by rw [hrm]; exact hR.1) (by rw [hrm]; omega) (by rw [hrm]; exact hcc.1) (by rw [hrm]; exact hcc.2) d ?_
  rw [show (0 : Int32) - Int32.ofInt a = Int32.ofInt (-a) by rw [Int32.ofInt_neg]; exact Int32.zero_sub _, ite_i ge0_iff32]
  exact k H locs ls hS hl'
end ENG8
def bc1 (a : Int) : Int := a - i_and (i_ushr a 1) 1431655765
def bc2 (a : Int) : Int := i_and (bc1 a) 858993459 + i_and (i_ushr (bc1 a) 2) 858993459
def bc3 (a : Int) : Int := i_and (bc2 a + i_ushr (bc2 a) 4) 252645135
def bc4 (a : Int) : Int := bc3 a + i_ushr (bc3 a) 8
def bc5 (a : Int) : Int := bc4 a + i_ushr (bc4 a) 16
def i_bits (a : Int) : Int := i_and (bc5 a) 63
theorem con_bitCount {K : Nat → Nat} (g : GS) (a : Int) : Con yJ10_bitCount cJ10_bitCount 1 (some .int) 1 12 K (fun _ => [vI a]) g (fun _ => some (vI (i_bits a))) g := by
  refine Con.of RJ10 (by decide) rfl (fun b => Nat.le_of_ble_eq_true rfl) (fun x sz hX => ?_)
  have X := hX.1
  show V x 1 K 0 0 sz g 0 [(0, vI a)] []
  refine V_iload_n X dJ10_bitCount_0 0 rfl ?_
  refine V_iload_n X dJ10_bitCount_1 0 rfl ?_
  refine V_iconst X dJ10_bitCount_2 ?_
  refine V_iushr X dJ10_bitCount_3 ?_
  refine V_ldcw X q567 (n := 1431655765) (by decide) dJ10_bitCount_4 ?_
  refine V_iand X dJ10_bitCount_7 ?_
  refine V_isub X dJ10_bitCount_8 ?_
  refine V_istore_n X dJ10_bitCount_9 (by decide) (L' := [(0, vI (bc1 a))]) rfl ?_
  refine V_iload_n X dJ10_bitCount_10 0 rfl ?_
  refine V_ldcw X q568 (n := 858993459) (by decide) dJ10_bitCount_11 ?_
  refine V_iand X dJ10_bitCount_14 ?_
  refine V_iload_n X dJ10_bitCount_15 0 rfl ?_
  refine V_iconst X dJ10_bitCount_16 ?_
  refine V_iushr X dJ10_bitCount_17 ?_
  refine V_ldcw X q568 (n := 858993459) (by decide) dJ10_bitCount_18 ?_
  refine V_iand X dJ10_bitCount_21 ?_
  refine V_iadd X dJ10_bitCount_22 ?_
  refine V_istore_n X dJ10_bitCount_23 (by decide) (L' := [(0, vI (bc2 a))]) rfl ?_
  refine V_iload_n X dJ10_bitCount_24 0 rfl ?_
  refine V_iload_n X dJ10_bitCount_25 0 rfl ?_
  refine V_iconst X dJ10_bitCount_26 ?_
  refine V_iushr X dJ10_bitCount_27 ?_
  refine V_iadd X dJ10_bitCount_28 ?_
  refine V_ldcw X q569 (n := 252645135) (by decide) dJ10_bitCount_29 ?_
  refine V_iand X dJ10_bitCount_32 ?_
  refine V_istore_n X dJ10_bitCount_33 (by decide) (L' := [(0, vI (bc3 a))]) rfl ?_
  refine V_iload_n X dJ10_bitCount_34 0 rfl ?_
  refine V_iload_n X dJ10_bitCount_35 0 rfl ?_
  refine V_bipush X dJ10_bitCount_36 (by decide) ?_
  refine V_iushr X dJ10_bitCount_38 ?_
  refine V_iadd X dJ10_bitCount_39 ?_
  refine V_istore_n X dJ10_bitCount_40 (by decide) (L' := [(0, vI (bc4 a))]) rfl ?_
  refine V_iload_n X dJ10_bitCount_41 0 rfl ?_
  refine V_iload_n X dJ10_bitCount_42 0 rfl ?_
  refine V_bipush X dJ10_bitCount_43 (by decide) ?_
  refine V_iushr X dJ10_bitCount_45 ?_
  refine V_iadd X dJ10_bitCount_46 ?_
  refine V_istore_n X dJ10_bitCount_47 (by decide) (L' := [(0, vI (bc5 a))]) rfl ?_
  refine V_iload_n X dJ10_bitCount_48 0 rfl ?_
  refine V_bipush X dJ10_bitCount_49 (by decide) ?_
  refine V_iand X dJ10_bitCount_51 ?_
  exact V_end_i hX rfl dJ10_bitCount_52
theorem hdJ10_bitCount : yJ10_bitCount.cls ≠ "java/lang/invoke/MethodHandle" ∧ yJ10_bitCount.cls ≠ "java/lang/invoke/VarHandle" ∧ (parseMethodDescriptor yJ10_bitCount.desc).map (fun d => d.parameters.length) = some 1 := by decide +kernel
theorem V_bits {x : CT} {cc : ByteArray} {nL idx : Nat} {own : String} {ret : Option FieldType} {rm : Room} {K : Nat → Nat} {ce sl sz : Nat} {g : GS} {pc : Nat} {L : List (Nat × Value)} {st : List Value} (hX : XOK x cc nL own ret rm) {a : Int} (hl : Cond.methodLink own idx yJ10_bitCount ∈ lw_all) (hR : 2 ≤ rm.frames ∧ 40 ≤ rm.locals) (hc : (st.map fun v => v.category).sum ≤ 8) (hcc : ce ≤ rm.cells ∧ sl ≤ rm.slots) (d : decode cc pc = .ok (.invokestatic idx, 3)) (k : V x nL K ce sl sz g (pc + 3) L (vI (i_bits a) :: st)) : V x nL K ce sl sz g pc L (vI a :: st) :=
  V_callS (As := [vI a]) (rest := st) (s1 := vI (i_bits a) :: st) hX (con_bitCount g a) (lw_S hl q565 q124 q566) hdJ10_bitCount ⟨hR.1, by omega⟩ rfl rfl hc hcc d rfl rfl k
theorem V_end_a {x : CT} {cc : ByteArray} {nL : Nat} {own C : String} {rm : Room} {K : Nat → Nat} {sz : Nat} {g : GS} {pc : Nat} {L : List (Nat × Value)} {v : Nat → Option Value} {i : Nat} (hX : XR x cc nL own (some (.object C)) rm K sz v g) (hv : v (xb x) = some (.ref (xb x + i))) (d : decode cc pc = .ok (.areturn, 1)) : V x nL K 0 0 sz g pc L [.ref (xb x + i)] := by
  obtain ⟨⟨hx, hb, hml, hown, hts, hr, hlk, hKK, hrm, -⟩, hQ, hA⟩ := hX
  intro H locs ls hS hl'
  rw [WS, hA] at hS
  rw [hQ, hv]
  exact W.aret hx hb hr (Or.inl ⟨_, rfl⟩) (Or.inr ⟨_, rfl⟩) (fun t ht hW => ⟨rfl, ⟨by rw [ht]; exact hS.1, va_K.moved hW.alike hKK, by rw [ht]; exact hS.2.2.1⟩, hS.2.2.2.F ht⟩) hS.2.2.2.2.2 d hlk
