/-! ENGINE 3: fields, arrays, calls, ends -/
set_option maxRecDepth 100000
theorem fv_0 {b : Nat} {g : GS} {o ci j : Nat} (h : (lt_ ci j).1 = 0) : fv b g o ci j = vI (gI g (100 * ci + j) o) := by unfold fv; rw [h]; rfl
theorem fv_1 {b : Nat} {g : GS} {o ci j i : Nat} (h : (lt_ ci j).1 = 1) (hi : o + (lt_ ci j).2 = i) : fv b g o ci j = .ref (b + i) := by unfold fv; rw [h, hi]; rfl
theorem fv_2 {b : Nat} {g : GS} {o ci j i : Nat} (h : (lt_ ci j).1 = 2) (hi : (lt_ ci j).2 = i) : fv b g o ci j = .ref (b + i) := by unfold fv; rw [h, hi]; rfl
theorem fv_3 {b : Nat} {g : GS} {o ci j : Nat} (h : (lt_ ci j).1 = 3) : fv b g o ci j = va_rf (rvo b (gI g (100 * ci + j) o)) := by unfold fv; rw [h]; rfl
theorem pfd_I : parseFieldDescriptor "I" = some .int := by decide +kernel
theorem key_ne {ci j k : Nat} (h : ¬ k = j) : ¬ (100 * ci + k = 100 * ci + j) := by omega
/-- a field's slot is written -/
theorem Wd.put {D : va_G} {dA : Nat → ClassId} {b : Nat} {K : Nat → Nat} {g : GS} {H H1 : Heap} {o ci j : Nat} {C : String} {T : u_T} {N : Nat} {a : Int} {v : Value} (h : Wd D dA b K g H) (hci : ci < 100) (hK : K o = ci + 1) (hc : clT[ci]? = some (C, T, N)) (ht : fv b (sI g (100 * ci + j) o a) o ci j = v)
    (hn : t_OB (b + o) (D.1 ci) N (D.2 ci) H1 (updV (fv b g o ci) j v)) (hq : ∀ q, q ≠ b + o → H1[q]? = H[q]?) : Wd D dA b K (sI g (100 * ci + j) o a) H1 := by
  intro o'
  by_cases e : o' = o
  · subst e
    refine ⟨fun ci' hc' e' => ?_, fun t n ht hn e => by omega, fun t n h4 ht hn e => by omega, fun i hi e => by omega⟩
    have e2 : ci' = ci := by omega
    subst e2
    refine ⟨_, hc, hn.to fun k _ => ?_⟩
    unfold updV
    by_cases hk : k = j
    · subst hk
      rw [if_pos rfl]
      exact ht.symm
    · rw [if_neg hk]
      unfold fv
      rw [gI_sI, if_neg (fun z => key_ne hk z.1)]
  · exact (h o').kept (hq _ (fun z => e (by omega))) (fun f => by rw [gI_sI, if_neg (fun z => e z.2)]) (fun k => rfl)
theorem Wd.sto {D : va_G} {dA : Nat → ClassId} {b : Nat} {K : Nat → Nat} {g : GS} {H H1 : Heap} {o t n k : Nat} {a : Int} (h : Wd D dA b K g H) (ht : t < 3) (hn : n < 10000) (hK : K o = 10000 * (t + 1) + n)
    (hv : H1[b + o]? = some (arrV (dA t) n (updV (fun j => .int (Int32.ofInt (gA g o j))) k (.int (Int32.ofInt a))))) (hq : ∀ q, q ≠ b + o → H1[q]? = H[q]?) : Wd D dA b K (sA g o k a) H1 := by
  intro o'
  by_cases e : o' = o
  · subst e
    refine ⟨fun ci' hc' e' => by omega, fun t' n' ht' hn' e => ?_, fun t n h4 ht hn e => by omega, fun i hi e => by omega⟩
    have e1 : t' = t := by omega
    have e2 : n' = n := by omega
    subst e1 e2
    rw [hv, arrC_i ht, vp_cell_i]
    congr 2
    funext j
    unfold updV
    rw [gA_sA]
    by_cases hj : j = k
    · rw [if_pos hj, if_pos ⟨rfl, hj⟩]
    · rw [if_neg hj, if_neg (fun z => hj z.2)]
  · exact (h o').kept (hq _ (fun z => e (by omega))) (fun f => rfl) (fun k => by rw [gA_sA, if_neg (fun z => e z.1)])
theorem rtZ_some {α : Type} {v : Int} {x : Option α} {r : α} (h : rtZ v x = some r) : (v = 0 ∨ v = 1) ∧ x = some r := by
  unfold rtZ at h
  split at h
  · exact ⟨by assumption, h⟩
  · cases h
theorem inb_of {i : Int} {n : Nat} (h : 0 ≤ w32 i ∧ w32 i < n) : ¬ (Int32.ofInt i < 0 ∨ n ≤ (Int32.ofInt i).toNatClampNeg) := by
  rintro (q | q)
  · have := lt0_iff32.mp q
    omega
  · have e : (Int32.ofInt i).toNatClampNeg = (w32 i).toNat := rfl
    omega
theorem inb_lt {i : Int} {n : Nat} (h : 0 ≤ w32 i ∧ w32 i < n) : (w32 i).toNat < n := by omega
section ENG3
variable {x : CT} {cc : ByteArray} {nL : Nat} {own : String} {ret : Option FieldType} {rm : Room} {K : Nat → Nat} {ce sl sz : Nat} {g : GS} {pc : Nat} {L L' : List (Nat × Value)} {st : List Value}
theorem V_get {o ci j idx N : Nat} {C : String} {T : u_T} {v : Value} (hX : XOK x cc nL own ret rm) (hc : clT[ci]? = some (C, T, N)) (hin : ∀ w ∈ u_ws C T N, w ∈ lw_all) (hci : ci < 100) (hK : K o = ci + 1) (hj : j < N) (hl : Cond.fieldLink own idx (T j).1 (T j).2.1 (T j).2.2.1 ∈ lw_all) (hv : fv (xb x) g o ci j = v) (d : decode cc pc = .ok (.getfield idx, 3))
    (k : V x nL K ce sl sz g (pc + 3) L (v :: st)) : V x nL K ce sl sz g pc L (.ref (xb x + o) :: st) := by
  obtain ⟨hx, hb, hml, hown, hts, hr, hlk, hKK, -⟩ := hX
  intro H locs ls hS hl'
  obtain ⟨r, h1, cell, q1, q2, q3, q4⟩ := (hS.1 o).1 ci hci hK
  cases hc.symm.trans h1
  obtain ⟨hS2, hfc, kC, hkC, hkind⟩ := hKK.1 ci _ hc
  obtain ⟨cf, kf, fi, f, hi, hsl⟩ := hS2 j hj
  refine W.getf hx hb hown (hts _ hl) hi (u_facts hfc hkC (u_lays hts hin hj) hi).1 q1 (by rw [q3]; exact fun h => by cases h) (v := v) ?_ rfl rfl d (k H locs ls hS hl')
  rw [hsl, q4 j hj, hv]
theorem V_put {o ci j idx N : Nat} {C : String} {T : u_T} {a : Int} {v : Value} {ty : FieldType} (hX : XOK x cc nL own ret rm) (hc : clT[ci]? = some (C, T, N)) (hin : ∀ w ∈ u_ws C T N, w ∈ lw_all) (ty0 : Nat → FieldType) (hty : ∀ k, k < N → parseFieldDescriptor (T k).2.2.1 = some (ty0 k)) (hnm : ∀ a, a < N → ∀ b, b < N → a ≠ b → (T a).2.1 ≠ (T b).2.1) (hci : ci < 100) (hK : K o = ci + 1) (hj : j < N) (hfin : (T j).2.2.2 = false) (hd : parseFieldDescriptor (T j).2.2.1 = some ty) (hn : narrow ty v = v) (hfit : fits ty v = true) (hl : Cond.fieldLink own idx (T j).1 (T j).2.1 (T j).2.2.1 ∈ lw_all)
    (hv : fv (xb x) (sI g (100 * ci + j) o a) o ci j = v) (d : decode cc pc = .ok (.putfield idx, 3))
    (k : V x nL K ce sl sz (sI g (100 * ci + j) o a) (pc + 3) L st) : V x nL K ce sl sz g pc L (v :: .ref (xb x + o) :: st) := by
  obtain ⟨hx, hb, hml, hown, hts, hr, hlk, hKK, -⟩ := hX
  intro H locs ls hS hl'
  have hap := va_apart (own := own) hts hin ty0 hty hnm hKK hc
  obtain ⟨r, h1, cell, q1, q2, q3, q4⟩ := (hS.1 o).1 ci hci hK
  cases hc.symm.trans h1
  obtain ⟨hS2, hfc, kC, hkC, hkind⟩ := hKK.1 ci _ hc
  obtain ⟨cf, kf, fi, f, hi, hsl⟩ := hS2 j hj
  have hlay := hts _ (hin _ (u_in_lay hj))
  unfold u_lay at hlay
  rw [if_neg (by rw [hfin]; decide)] at hlay
  have hst := (u_facts hfc hkC (u_lays hts hin hj) hi).1
  have h6 := u_store hfc hkC hkind hlay hi hd hn hfit
  refine W.putK hx hb (f := f) ⟨hown, hts _ hl, ⟨_, _, _, hi⟩, hst⟩ (by rw [q2]; exact h6) q1 q3 (by rw [hsl]; exact k2_hasslot (q4 j hj)) rfl rfl d fun H' e1 e2 e3 => ?_
  rw [hsl] at e1 ⊢
  exact k H' _ ls ⟨hS.1.put hci hK hc hv ⟨_, e1, q2, q3, t_set q4 hap hj v⟩ e3, hS.2.1, e2.trans hS.2.2.1, hS.2.2.2.put e2 e3 (hS.2.1 o (by rw [hK]; omega))⟩ hl'
theorem V_iald {α : Type} {F : Int → Option α} {r : α} {o n : Nat} {i : Int} (hX : XOK x cc nL own ret rm) (hK : K o = 10000 + n) (hn : n < 10000) (d : decode cc pc = .ok (.iaload, 1)) (h : (rdA g o n i).bind F = some r) (k : ∀ v, F v = some r → V x nL K ce sl sz g (pc + 1) L (vI v :: st)) : V x nL K ce sl sz g pc L (vI i :: .ref (xb x + o) :: st) := by
  obtain ⟨hx, hb, hml, hown, hts, hr, hlk, hKK, -⟩ := hX
  intro H locs ls hS hl'
  obtain ⟨v, h1, h2⟩ := bind_some_eq h
  unfold rdA at h1
  split at h1
  · rename_i hin
    cases h1
    exact W.iald hx hb ((hS.1 o).i 0 n (by omega) hn (by rw [hK])) ((hKK.2 0 _ rfl).1 n (fun j => .int (Int32.ofInt (gA g o j)))) (fun q => by cases q) (by rw [vp_cell_i, arrV_size]; exact inb_of hin) (by rw [vp_cell_i]; exact arrV_read _ _ (inb_lt hin)) rfl rfl d (k _ h2 H locs ls hS hl')
  · cases h1
theorem V_bald {α : Type} {F : Int → Option α} {r : α} {o n : Nat} {i : Int} (hX : XOK x cc nL own ret rm) (hK : K o = 20000 + n) (hn : n < 10000) (d : decode cc pc = .ok (.baload, 1)) (h : (rdA g o n i).bind F = some r) (k : ∀ v, F v = some r → V x nL K ce sl sz g (pc + 1) L (vI v :: st)) : V x nL K ce sl sz g pc L (vI i :: .ref (xb x + o) :: st) := by
  obtain ⟨hx, hb, hml, hown, hts, hr, hlk, hKK, -⟩ := hX
  intro H locs ls hS hl'
  obtain ⟨v, h1, h2⟩ := bind_some_eq h
  unfold rdA at h1
  split at h1
  · rename_i hin
    cases h1
    exact W.bald hx hb ((hS.1 o).i 1 n (by omega) hn (by rw [hK])) ((hKK.2 1 _ rfl).1 n (fun j => .int (Int32.ofInt (gA g o j)))) (fun q => by cases q) (by rw [vp_cell_i, arrV_size]; exact inb_of hin) (by rw [vp_cell_i]; exact arrV_read _ _ (inb_lt hin)) rfl rfl d (k _ h2 H locs ls hS hl')
  · cases h1
theorem V_zald {α : Type} {F : Int → Option α} {r : α} {o n : Nat} {i : Int} (hX : XOK x cc nL own ret rm) (hK : K o = 30000 + n) (hn : n < 10000) (d : decode cc pc = .ok (.baload, 1)) (h : (rdA g o n i).bind F = some r) (k : ∀ v, F v = some r → V x nL K ce sl sz g (pc + 1) L (vI v :: st)) : V x nL K ce sl sz g pc L (vI i :: .ref (xb x + o) :: st) := by
  obtain ⟨hx, hb, hml, hown, hts, hr, hlk, hKK, -⟩ := hX
  intro H locs ls hS hl'
  obtain ⟨v, h1, h2⟩ := bind_some_eq h
  unfold rdA at h1
  split at h1
  · rename_i hin
    cases h1
    exact W.zald hx hb ((hS.1 o).i 2 n (by omega) hn (by rw [hK])) ((hKK.2 2 _ rfl).1 n (fun j => .int (Int32.ofInt (gA g o j)))) (fun q => by cases q) (by rw [vp_cell_i, arrV_size]; exact inb_of hin) (by rw [vp_cell_i]; exact arrV_read _ _ (inb_lt hin)) rfl rfl d (k _ h2 H locs ls hS hl')
  · cases h1
theorem V_iast {α : Type} {F : GS → Option α} {r : α} {o n : Nat} {i a : Int} (hX : XOK x cc nL own ret rm) (hK : K o = 10000 + n) (hn : n < 10000) (d : decode cc pc = .ok (.iastore, 1)) (h : (wrA g o n i a).bind F = some r) (k : ∀ g', F g' = some r → V x nL K ce sl sz g' (pc + 1) L st) : V x nL K ce sl sz g pc L (vI a :: vI i :: .ref (xb x + o) :: st) := by
  obtain ⟨hx, hb, hml, hown, hts, hr, hlk, hKK, -⟩ := hX
  intro H locs ls hS hl'
  obtain ⟨v, h1, h2⟩ := bind_some_eq h
  unfold wrA at h1
  split at h1
  · rename_i hin
    cases h1
    refine W.iast hx hb ((hS.1 o).i 0 n (by omega) hn (by rw [hK])) ((hKK.2 0 _ rfl).1 n (fun j => .int (Int32.ofInt (gA g o j)))) (fun q => by cases q) (by rw [vp_cell_i, arrV_size]; exact inb_of hin) rfl rfl d fun H1 e z oq => ?_
    refine k _ h2 H1 _ ls ⟨hS.1.sto (t := 0) (n := n) (by omega) hn (by rw [hK]) ?_ oq, hS.2.1, z.trans hS.2.2.1, hS.2.2.2.put z oq (hS.2.1 o (by rw [hK]; omega))⟩ hl'
    rw [e, vp_cell_i, arrV_store]
    rfl
  · cases h1
theorem V_bast {α : Type} {F : GS → Option α} {r : α} {o n : Nat} {i a : Int} (hX : XOK x cc nL own ret rm) (hK : K o = 20000 + n) (hn : n < 10000) (d : decode cc pc = .ok (.bastore, 1)) (h : (wrA g o n i (i_b a)).bind F = some r) (k : ∀ g', F g' = some r → V x nL K ce sl sz g' (pc + 1) L st) : V x nL K ce sl sz g pc L (vI a :: vI i :: .ref (xb x + o) :: st) := by
  obtain ⟨hx, hb, hml, hown, hts, hr, hlk, hKK, -⟩ := hX
  intro H locs ls hS hl'
  obtain ⟨v, h1, h2⟩ := bind_some_eq h
  unfold wrA at h1
  split at h1
  · rename_i hin
    cases h1
    refine W.bast hx hb ((hS.1 o).i 1 n (by omega) hn (by rw [hK])) ((hKK.2 1 _ rfl).1 n (fun j => .int (Int32.ofInt (gA g o j)))) (fun q => by cases q) (by rw [vp_cell_i, arrV_size]; exact inb_of hin) rfl rfl d fun H1 e z oq => ?_
    refine k _ h2 H1 _ ls ⟨hS.1.sto (t := 1) (n := n) (by omega) hn (by rw [hK]) ?_ oq, hS.2.1, z.trans hS.2.2.1, hS.2.2.2.put z oq (hS.2.1 o (by rw [hK]; omega))⟩ hl'
    rw [e, vp_cell_i, arrV_store]
    congr 3
    show narrow .byte (.int (Int32.ofInt a)) = .int (Int32.ofInt (i_b a))
    rw [i_b, Int32.ofInt_toInt]
    rfl
  · cases h1
theorem nar_z {a : Int} (h : a = 0 ∨ a = 1) : narrow .boolean (.int (Int32.ofInt a)) = .int (Int32.ofInt a) := by
  rcases h with h | h <;> subst h <;> rfl
theorem V_zast {α : Type} {F : GS → Option α} {r : α} {o n : Nat} {i a : Int} (hX : XOK x cc nL own ret rm) (hK : K o = 30000 + n) (hn : n < 10000) (d : decode cc pc = .ok (.bastore, 1)) (h : rtZ a ((wrA g o n i a).bind F) = some r) (k : ∀ g', F g' = some r → V x nL K ce sl sz g' (pc + 1) L st) : V x nL K ce sl sz g pc L (vI a :: vI i :: .ref (xb x + o) :: st) := by
  obtain ⟨hx, hb, hml, hown, hts, hr, hlk, hKK, -⟩ := hX
  intro H locs ls hS hl'
  unfold rtZ at h
  split at h
  · rename_i ha
    obtain ⟨v, h1, h2⟩ := bind_some_eq h
    unfold wrA at h1
    split at h1
    · rename_i hin
      cases h1
      refine W.zast hx hb ((hS.1 o).i 2 n (by omega) hn (by rw [hK])) ((hKK.2 2 _ rfl).1 n (fun j => .int (Int32.ofInt (gA g o j)))) (fun q => by cases q) (by rw [vp_cell_i, arrV_size]; exact inb_of hin) rfl rfl d fun H1 e z oq => ?_
      refine k _ h2 H1 _ ls ⟨hS.1.sto (t := 2) (n := n) (by omega) hn (by rw [hK]) ?_ oq, hS.2.1, z.trans hS.2.2.1, hS.2.2.2.put z oq (hS.2.1 o (by rw [hK]; omega))⟩ hl'
      rw [e, vp_cell_i, arrV_store, nar_z ha]
      rfl
    · cases h1
  · cases h
theorem V_alen {t o n : Nat} (hX : XOK x cc nL own ret rm) (ht : t < 3) (hn : n < 10000) (hK : K o = 10000 * (t + 1) + n) (d : decode cc pc = .ok (.arraylength, 1)) (k : V x nL K ce sl sz g (pc + 1) L (vI n :: st)) : V x nL K ce sl sz g pc L (.ref (xb x + o) :: st) := by
  obtain ⟨hx, hb, hml, hown, hts, hr, hlk, hKK, -⟩ := hX
  intro H locs ls hS hl'
  have hc := (hS.1 o).i t n (by omega) hn hK
  have hs : (vp_cell (x.2.2.2.1 t) (n, .inl fun k => Int32.ofInt (gA g o k))).slots.size.toInt32 = Int32.ofInt (n : Int) := by
    rw [vp_cell_i, arrV_size, Int32.ofInt_eq_ofNat]
  rcases (show t = 0 ∨ t = 1 ∨ t = 2 by omega) with e | e | e
  · subst e
    exact W.alen hx hb hc ((hKK.2 0 _ rfl).1 n (fun j => .int (Int32.ofInt (gA g o j)))) hs rfl rfl d (k H locs ls hS hl')
  · subst e
    exact W.alen hx hb hc ((hKK.2 1 _ rfl).1 n (fun j => .int (Int32.ofInt (gA g o j)))) hs rfl rfl d (k H locs ls hS hl')
  · subst e
    exact W.alen hx hb hc ((hKK.2 2 _ rfl).1 n (fun j => .int (Int32.ofInt (gA g o j)))) hs rfl rfl d (k H locs ls hS hl')
end ENG3
/-! calls and ends -/
def WU (D : va_G) (dA : Nat → ClassId) (b : Nat) (K : Nat → Nat) (sz : Nat) (g : GS) (U : State) : Prop := Wd D dA b K g U.heap ∧ va_K D clT (tysA dA) U ∧ U.heap.size = b + sz
def WS0 (D : va_G) (dA : Nat → ClassId) (b : Nat) (K : Nat → Nat) (sz : Nat) (g : GS) (U : State) : Prop := WU D dA b K sz g U ∧ SF D b U U.heap
def QR (v : Option Value) (B : State → Prop) (A : Nat → Prop) : Array Value → State → Outcome → State → Prop := fun _ st oc t => oc = .returned v ∧ B t ∧ va_F A st t
/-- the contract of a method over the world: called with as in g it answers v, and the world is g' -/
def Con (y : MethodName) (cc : ByteArray) (nL : Nat) (ret : Option FieldType) (fr lo : Nat) (K : Nat → Nat) (as : Nat → List Value) (g : GS) (v : Nat → Option Value) (g' : GS) : Prop :=
  ∀ (l : Launch) (D : va_G) (dA : Nat → ClassId) (b sz : Nat), l.flags = flags0 → Met l y (ws_ y cc nL ret) ({ frames := fr, cells := 0, slots := 0, locals := lo }) (va_Pc (as b) (WS0 D dA b K sz g)) (QR (v b) (WU D dA b K sz g') (AK b K)) 0 0 (AK b K)
section CL
variable {p : Program} {l : Launch} {e : Env} {R : Room} {s : State} {m : MethodId} {args : Array Value} {below : List Frame} {meth : Method} {c : Code} {H : Heap} {locs : List Loc} {cells slots : Nat} {Q : State → Prop}
variable {pc : Nat} {ls : Array Slot} {rest st0 : List Value} {a : Array Value} {A0 A1 : Nat → Prop} {H0 : Heap} {mc ms : Nat} {free : Addr → Prop} {v : Option Value} {B : State → Prop}
theorem call_QR (hr : va_Run p l e R s m args below meth c H locs cells slots mc ms (F0 m pc ls st0) rest (QR v B A1 a) free) (hS : va_S A0 H0 H locs) (hA : ∀ q, q < H.size → A1 q → A0 q) (hf : ∀ q, free q → A0 q)
    (kk : ∀ (t : State) (H1 : Heap) (locs1 : List Loc), t.heap = H1 → s.vm.Alike t.vm → B t → H.size ≤ H1.size → (∀ q : Nat, q < H.size → ¬ A1 q → H1[q]? = H[q]?) → va_S A0 H0 H1 locs1 → W p l e R s m args below meth c H1 locs1 (cells + mc) (slots + ms) Q (F0 m (pc + 3) ls (v.toList ++ rest))) : W p l e R s m args below meth c H locs cells slots Q (F0 m pc ls st0) := by
  intro T hT X
  obtain ⟨v', st₀, t, T', L, h0, X', hL, e1, e2, ⟨hv, hb, hz, hk⟩, st⟩ := hr T hT X
  cases hv
  rw [h0] at hz hk
  obtain ⟨t2, a1, b1⟩ := kk t T'.heap (locs ++ L) e1.symm (by rw [← e2]; exact X'.warmed.alike) hb (by rw [e1]; exact hz) (fun q h1 h2 => by rw [e1]; exact hk q h1 h2)
    ⟨Nat.le_trans hS.1 (by rw [e1]; exact hz), fun q h1 h2 => by rw [e1, hk q (Nat.lt_of_lt_of_le h1 hS.1) (fun z => h2 (hA q (Nat.lt_of_lt_of_le h1 hS.1) z))]; exact hS.2.1 q h1 h2, fun q hq => by
      rcases List.mem_append.mp hq with h | h
      · exact hS.2.2 q h
      · exact hf _ (hL q h)⟩ T' rfl X'
  exact ⟨t2, st t2 a1, b1⟩
end CL
theorem WU.blind {D : va_G} {dA : Nat → ClassId} {b : Nat} {K : Nat → Nat} {sz : Nat} {g : GS} {as : List Value} : FrameBlind (va_Pc as (WS0 D dA b K sz g)) := fun a U g' mk h => ⟨h.1, ⟨h.2.1.1, va_K.moved (u := U) (U := U.calling g' mk a) (Vm.Alike.refl U.vm) h.2.1.2.1, h.2.1.2.2⟩, h.2.2⟩
section ENG4
variable {x : CT} {cc bytes : ByteArray} {nL maxL : Nat} {own C : String} {ret ret' : Option FieldType} {rm : Room} {K : Nat → Nat} {ce sl sz : Nat} {g g' : GS} {pc : Nat} {L : List (Nat × Value)} {rest As s0 s1 : List Value} {y : MethodName} {fr lo o idx n : Nat} {as : Nat → List Value} {v : Nat → Option Value}
theorem V_callV {ci N : Nat} {T : u_T} (hX : XOK x cc nL own ret rm) (hM : Con y bytes maxL ret' fr lo K as g v g') (hg : GoodIn lw_all (wsV own idx C y (ws_ y bytes maxL ret')))
    (hd : y.cls = C ∧ y.cls ≠ "java/lang/invoke/MethodHandle" ∧ y.cls ≠ "java/lang/invoke/VarHandle" ∧ (parseMethodDescriptor y.desc).map (fun d => d.parameters.length) = some n) (hR : fr + 1 ≤ rm.frames ∧ 8 + (maxL + 11) + lo ≤ rm.locals)
    (hcl : clT[ci]? = some (C, T, N)) (hci : ci < 100) (hK : K o = ci + 1) (ha : as (xb x) = .ref (xb x + o) :: As) (hn : As.length = n) (hc : (rest.map fun v => v.category).sum ≤ 8) (hcc : ce ≤ rm.cells ∧ sl ≤ rm.slots) (d : decode cc pc = .ok (.invokevirtual idx, 3))
    (h0 : s0 = As.reverse ++ .ref (xb x + o) :: rest) (h1 : (v (xb x)).toList ++ rest = s1)
    (k : V x nL K ce sl sz g' (pc + 3) L s1) : V x nL K ce sl sz g pc L s0 := by
  subst h0 h1
  obtain ⟨hx, hb, hml, hown, hts, hr, hlk, hKK, hrm, hSF, hAb, hfl⟩ := hX
  intro H locs ls hS hl'
  obtain ⟨r, h1, cell, q1, q2, q3, q4⟩ := (hS.1 o).1 ci hci hK
  cases hcl.symm.trans h1
  obtain ⟨hS2, hfc, kC, hkC, hkind⟩ := hKK.1 ci _ hcl
  refine call_QR (va_runV (As := As) (rest := rest) ⟨hx, hb, hml, hown, hts⟩ (hM x.1.2.1 x.2.2.1 x.2.2.2.1 (xb x) sz hfl) (cwV n hts hg rfl rfl rfl hd (by rw [hrm]; exact hR)) ⟨WU.blind, ⟨cell, q1, by rw [q3]; rfl, by rw [q2]; exact hfc⟩, fun U hU hW => ⟨by rw [ha], ⟨by rw [hU]; exact hS.1, va_K.moved hW.alike hKK, by rw [hU]; exact hS.2.2.1⟩, by rw [hU]; exact hSF.on hW hAb hS.2.2.2⟩⟩ rfl hn hl'.1 rfl (lv_room hc) d (by rw [hrm]; exact hcc)) hS.2.2.2 (fun q _ hq => by obtain ⟨o', e, h⟩ := hq; rw [e]; exact hS.2.1 o' h) (fun q hq => by obtain ⟨o', e, h⟩ := hq; rw [e]; exact hS.2.1 o' h) fun t H1 locs1 ht hvm hB hz hk hS1 => ?_
  rw [WU, ht] at hB
  exact k H1 locs1 ls ⟨hB.1, hS.2.1, hB.2.2, hS1⟩ hl'
theorem V_callS (hX : XOK x cc nL own ret rm) (hM : Con y bytes maxL ret' fr lo K as g v g') (hg : GoodIn lw_all (va_wsS own idx y (ws_ y bytes maxL ret')))
    (hd : y.cls ≠ "java/lang/invoke/MethodHandle" ∧ y.cls ≠ "java/lang/invoke/VarHandle" ∧ (parseMethodDescriptor y.desc).map (fun d => d.parameters.length) = some n) (hR : fr + 1 ≤ rm.frames ∧ 8 + (maxL + 11) + lo ≤ rm.locals)
    (ha : as (xb x) = As) (hn : As.length = n) (hc : (rest.map fun v => v.category).sum ≤ 8) (hcc : ce ≤ rm.cells ∧ sl ≤ rm.slots) (d : decode cc pc = .ok (.invokestatic idx, 3))
    (h0 : s0 = As.reverse ++ rest) (h1 : (v (xb x)).toList ++ rest = s1)
    (k : V x nL K ce sl sz g' (pc + 3) L s1) : V x nL K ce sl sz g pc L s0 := by
  subst h0 h1
  obtain ⟨hx, hb, hml, hown, hts, hr, hlk, hKK, hrm, hSF, hAb, hfl⟩ := hX
  intro H locs ls hS hl'
  refine call_QR (va_runS (As := As) (rest := rest) ⟨hx, hb, hml, hown, hts⟩ (hM x.1.2.1 x.2.2.1 x.2.2.2.1 (xb x) sz hfl) (va_cwS n hts hg rfl rfl rfl hd (by rw [hrm]; exact hR)) ⟨WU.blind, fun U hU hW => ⟨by rw [ha], ⟨by rw [hU]; exact hS.1, va_K.moved hW.alike hKK, by rw [hU]; exact hS.2.2.1⟩, by rw [hU]; exact hSF.on hW hAb hS.2.2.2⟩⟩ rfl hn hl'.1 rfl (lv_room hc) d (by rw [hrm]; exact hcc)) hS.2.2.2 (fun q _ hq => by obtain ⟨o', e, h⟩ := hq; rw [e]; exact hS.2.1 o' h) (fun q hq => by obtain ⟨o', e, h⟩ := hq; rw [e]; exact hS.2.1 o' h) fun t H1 locs1 ht hvm hB hz hk hS1 => ?_
  rw [WU, ht] at hB
  exact k H1 locs1 ls ⟨hB.1, hS.2.1, hB.2.2, hS1⟩ hl'
/-- in the body of a method that owes: answer v, world g' -/
def XR (x : CT) (cc : ByteArray) (nL : Nat) (own : String) (ret : Option FieldType) (rm : Room) (K : Nat → Nat) (sz : Nat) (v : Nat → Option Value) (g' : GS) : Prop :=
  XOK x cc nL own ret rm ∧ x.2.1.2.2.2.2.1 = MQ x.2.1.2.1 (QR (v (xb x)) (WU x.2.2.1 x.2.2.2.1 (xb x) K sz g') (AK (xb x) K)) x.2.1.1 x.1.2.2.2.2.1 0 0 (AK (xb x) K) ∧ x.2.1.2.2.2.2.2 = AK (xb x) K
theorem V_end_i {a : Int} (hX : XR x cc nL own (some .int) rm K sz v g) (hv : v (xb x) = some (vI a)) (d : decode cc pc = .ok (.ireturn, 1)) : V x nL K 0 0 sz g pc L [vI a] := by
  obtain ⟨⟨hx, hb, hml, hown, hts, hr, hlk, hKK, hrm, -⟩, hQ, hA⟩ := hX
  intro H locs ls hS hl'
  rw [WS, hA] at hS
  rw [hQ, hv]
  exact W.iret hx hb hr (fun t ht hW => ⟨rfl, ⟨by rw [ht]; exact hS.1, va_K.moved hW.alike hKK, by rw [ht]; exact hS.2.2.1⟩, hS.2.2.2.F ht⟩) hS.2.2.2.2.2 d hlk
theorem V_end_z {a : Int} (hX : XR x cc nL own (some .boolean) rm K sz v g) (h01 : a = 0 ∨ a = 1) (hv : v (xb x) = some (vI a)) (d : decode cc pc = .ok (.ireturn, 1)) : V x nL K 0 0 sz g pc L [vI a] := by
  obtain ⟨⟨hx, hb, hml, hown, hts, hr, hlk, hKK, hrm, -⟩, hQ, hA⟩ := hX
  intro H locs ls hS hl'
  rw [WS, hA] at hS
  rw [hQ, hv]
  exact W.zret hx hb hr (nar_z h01) (fun t ht hW => ⟨rfl, ⟨by rw [ht]; exact hS.1, va_K.moved hW.alike hKK, by rw [ht]; exact hS.2.2.1⟩, hS.2.2.2.F ht⟩) hS.2.2.2.2.2 d hlk
theorem V_end_l {a : Int} (hX : XR x cc nL own (some .long) rm K sz v g) (hv : v (xb x) = some (vL a)) (d : decode cc pc = .ok (.lreturn, 1)) : V x nL K 0 0 sz g pc L [vL a] := by
  obtain ⟨⟨hx, hb, hml, hown, hts, hr, hlk, hKK, hrm, -⟩, hQ, hA⟩ := hX
  intro H locs ls hS hl'
  rw [WS, hA] at hS
  rw [hQ, hv]
  exact W.lret hx hb hr (fun t ht hW => ⟨rfl, ⟨by rw [ht]; exact hS.1, va_K.moved hW.alike hKK, by rw [ht]; exact hS.2.2.1⟩, hS.2.2.2.F ht⟩) hS.2.2.2.2.2 d hlk
theorem V_end_v (hX : XR x cc nL own none rm K sz v g) (hv : v (xb x) = none) (d : decode cc pc = .ok (.return_, 1)) : V x nL K 0 0 sz g pc L [] := by
  obtain ⟨⟨hx, hb, hml, hown, hts, hr, hlk, hKK, hrm, -⟩, hQ, hA⟩ := hX
  intro H locs ls hS hl'
  rw [WS, hA] at hS
  rw [hQ, hv]
  exact W.vret hx hb hr (fun t ht hW => ⟨rfl, ⟨by rw [ht]; exact hS.1, va_K.moved hW.alike hKK, by rw [ht]; exact hS.2.2.1⟩, hS.2.2.2.F ht⟩) hS.2.2.2.2.2 d hlk
/-- a walk of the body is a contract -/
theorem Con.of (own : String) (hy : plainName y.cls = true) (hown : y.cls = own) (hlen : ∀ b, (lg_sl (as b)).length ≤ nL) (h : ∀ (x : CT) (sz : Nat), XR x cc nL own ret ({ frames := fr, cells := 0, slots := 0, locals := lo }) K sz v g' → V x nL K 0 0 sz g 0 (lv_args 0 (as (xb x))) []) : Con y cc nL ret fr lo K as g v g' := by
  intro l D dA b sz hfl
  refine Met.ofW (cc := cc) (maxL := nL) (ret := ret) hy rfl ?_
  intro p e s m args below meth c s₁ B hml hv
  obtain ⟨rfl, ⟨hWd, hK, hsz⟩, hSF⟩ := hv
  have hts := atoms_spec (ws := ws_ y cc nL ret) B.pre
  have hX : XR ((p, l, e, _, s, m), ((as b).toArray, below, meth, c, MQ below (QR (v b) (WU D dA b K sz g') (AK b K)) (as b).toArray s 0 0 (AK b K), AK b K), (D, dA, b)) cc nL own ret ({ frames := fr, cells := 0, slots := 0, locals := lo }) K sz v g' := ⟨⟨B.exec, B.bytes, hml, by rw [← hown]; exact findClass_of_methodNamed B.named, fun w h => hts w (List.mem_cons_of_mem _ h), B.returns, B.notSynchronized, hK, rfl, hSF, fun q hq => by obtain ⟨o, e, -⟩ := hq; rw [e]; exact Nat.le_add_right _ _, hfl⟩, rfl, rfl⟩
  have h2 := h _ sz hX s.heap [] _ ⟨hWd, fun o ho => ⟨o, rfl, ho⟩, hsz, va_S.rf⟩ (lv_entry (as b) (n := nL) (hlen b))
  rw [lg_entry_eq]
  exact h2
end ENG4
/-! more room does no harm -/
theorem room_mono {s : State} {pl : Platform} {r r' : Room} (h : s.hasRoom pl r' = true) (h1 : r.frames ≤ r'.frames) (h2 : r.locals ≤ r'.locals) (h3 : r.cells ≤ r'.cells) (h4 : r.slots ≤ r'.slots) : s.hasRoom pl r = true := by
  unfold State.hasRoom at h ⊢
  simp only [Bool.and_eq_true, decide_eq_true_eq] at h ⊢
  obtain ⟨⟨⟨⟨a, b1, b2, b3, b4, b5⟩, c⟩, d⟩, e⟩ := h
  exact ⟨⟨⟨⟨by omega, by omega, by omega, by omega, by omega, b5⟩, by omega⟩, by omega⟩, e⟩
theorem Met.mono_room {l : Launch} {y : MethodName} {ws : List Cond} {rm rm' : Room} {Pc : Array Value → State → Prop} {Qc : Array Value → State → Outcome → State → Prop} {mc ms : Nat} {free : Addr → Prop} (h : Met l y ws rm Pc Qc mc ms free) (h1 : rm.frames ≤ rm'.frames) (h2 : rm.locals ≤ rm'.locals) (h3 : rm.cells ≤ rm'.cells) (h4 : rm.slots ≤ rm'.slots) : Met l y ws rm' Pc Qc mc ms free := by
  intro p e ha hc hk s m args below hf happ hP hK
  refine h p e ha hc hk s m args below hf ((Spec.appliesLoose_iff hf).mpr ?_) hP hK
  obtain ⟨a1, a2, a3, a4, a5, a6, a7, a8⟩ := (Spec.appliesLoose_iff hf).mp happ
  exact ⟨a1, a2, a3, a4, a5, a6, room_mono a7 h1 h2 h3 h4, a8⟩
theorem Con.mono {y : MethodName} {cc : ByteArray} {nL : Nat} {ret : Option FieldType} {fr lo fr' lo' : Nat} {K : Nat → Nat} {as : Nat → List Value} {g g' : GS} {v : Nat → Option Value} (h : Con y cc nL ret fr lo K as g v g') (h1 : fr ≤ fr') (h2 : lo ≤ lo') : Con y cc nL ret fr' lo' K as g v g' :=
  fun l D dA b sz hfl => (h l D dA b sz hfl).mono_room h1 h2 (Nat.le_refl _) (Nat.le_refl _)
