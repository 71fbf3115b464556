/-! ENGINE 12: makers: references stored, arrays of arrays, raw kinds done, the readers' words -/
set_option maxRecDepth 100000
theorem asg_rf (vm : Vm) (c : ClassId) : vm.assignable c c = true := by
  show vm.assignableAux (255 + 1) c c = true
  unfold Vm.assignableAux
  simp only [beq_self_eq_true, Bool.true_or]
theorem rvo_nat (b v : Nat) : rvo b (v : Int) = some (b + v) := by
  unfold rvo
  rw [if_neg (by omega), Int.toNat_natCast]
theorem Wd.sto4 {D : va_G} {dA : Nat → ClassId} {b : Nat} {K : Nat → Nat} {g : GS} {H H1 : Heap} {o t n k : Nat} {a : Int} (h : Wd D dA b K g H) (h4 : 4 ≤ t) (ht : t < 8) (hn : n < 10000) (hK : K o = 10000 * (t + 1) + n)
    (hv : H1[b + o]? = some (arrV (dA t) n (updV (fun j => va_rf (rvo b (gA g o j))) k (va_rf (rvo b a))))) (hq : ∀ q, q ≠ b + o → H1[q]? = H[q]?) : Wd D dA b K (sA g o k a) H1 := by
  intro o'
  by_cases e : o' = o
  · subst e
    refine ⟨fun ci' hc' e' => by omega, fun t' n' ht' hn' e => by omega, fun t' n' h4' ht' hn' e => ?_, fun i hi e => by omega⟩
    have e1 : t' = t := by omega
    have e2 : n' = n := by omega
    subst e1 e2
    rw [hv, vp_cell_q]
    congr 2
    funext j
    unfold updV
    rw [gA_sA]
    by_cases hj : j = k
    · rw [if_pos hj, if_pos ⟨rfl, hj⟩]
    · rw [if_neg hj, if_neg (fun z => hj z.2)]
  · exact (h o').kept (hq _ (fun z => e (by omega))) (fun f => rfl) (fun k => by rw [gA_sA, if_neg (fun z => e z.1)])
section ENGO
variable {x : CT} {cc bytes : ByteArray} {nL maxL : Nat} {own C : String} {ret ret' : Option FieldType} {rm : Room} {K K' : Nat → Nat} {ce sl sz z z0 : Nat} {g g' : GS} {pc : Nat} {L : List (Nat × Value)} {st rest As s0 s1 : List Value} {y : MethodName} {fr lo fr' lo' o idx n e i : Nat} {as : Nat → List Value}
theorem V_aast {α : Type} {F : GS → Option α} {r : α} {t ci v N : Nat} {T : u_T} {j : Int} (hX : XOK x cc nL own ret rm) (h4 : 4 ≤ t) (ht : t < 8) (hty : (tysA x.2.2.2.1)[t]? = some (x.2.2.2.1 t, .object C)) (hcl : clT[ci]? = some (C, T, N)) (hci : ci < 100) (hKv : K v = ci + 1) (hK : K o = 10000 * (t + 1) + n) (hn : n < 10000) (d : decode cc pc = .ok (.aastore, 1)) (h : (wrA g o n j (v : Int)).bind F = some r) (k : ∀ g', F g' = some r → V x nL K ce sl sz g' (pc + 1) L st) : V x nL K ce sl sz g pc L (.ref (xb x + v) :: vI j :: .ref (xb x + o) :: st) := by
  obtain ⟨hx, hb, hml, hown, hts, hr, hlk, hKK, -⟩ := hX
  intro H locs ls hS hl'
  obtain ⟨g2, h1, h2⟩ := bind_some_eq h
  unfold wrA at h1
  split at h1
  · rename_i hin
    cases h1
    obtain ⟨r', h1', cell, q1, q2, q3, q4⟩ := (hS.1 v).1 ci hci hKv
    cases hcl.symm.trans h1'
    obtain ⟨hS2, hcls⟩ := hKK.1 ci _ hcl
    obtain ⟨kC, hkC, hkind⟩ := hcls.2
    obtain ⟨kA, comp, k1, k2, k3, -⟩ := (hKK.2 t _ hty).2
    have hcomp : comp = x.2.2.1.1 ci := Option.some.inj (k3.symm.trans hcls.1)
    subst hcomp
    have hc := (hS.1 o).2.2.1 t n h4 ht hn hK
    rw [vp_cell_q] at hc
    refine W.aast hx hb hc (fun q h => by cases h) (fun h => by cases h) k1 k2 rfl hkC ⟨fun q => inb_of hin (Or.inl q), by rw [arrV_size]; exact inb_lt hin⟩ q1 (fun q h => by rw [q3] at h; cases h) (by rw [q2]; exact hkC) (by rw [q2]; exact asg_rf _ _) rfl rfl d fun H1 e z oq => ?_
    refine k _ h2 H1 _ ls ⟨hS.1.sto4 h4 ht hn hK ?_ oq, hS.2.1, z.trans hS.2.2.1, hS.2.2.2.put z oq (hS.2.1 o (by rw [hK]; omega))⟩ hl'
    rw [e, arrV_store, rvo_nat]
    rfl
  · cases h1
end ENGO
/-! arrays of arrays -/
theorem outerC_arrV (c : ClassId) (N h0 : Nat) : ∀ i, Jvm.Free.Multi.outerC c N h0 i = arrV c N (fun j => if j < i then .ref (h0 + 1 + j) else .null) := by
  intro i
  induction i with
  | zero =>
    show ({ cls := c, slots := Array.replicate N .null, vm := .none } : Cell) = _
    rw [arrV_new]
    congr 1
  | succ i ih =>
    show (Jvm.Free.Multi.outerC c N h0 i).setSlot i (.ref (h0 + 1 + i)) = _
    rw [ih, arrV_store]
    congr 1
    funext j
    unfold updV
    dsimp only
    by_cases e : j = i
    · subst e
      rw [if_pos rfl, if_pos (Nat.lt_succ_self j)]
    · rw [if_neg e]
      by_cases h : j < i
      · rw [if_pos h, if_pos (Nat.lt_succ_of_lt h)]
      · rw [if_neg h, if_neg (by omega)]
theorem W_multi {p : Program} {l : Launch} {e : Env} {R : Room} {s : State} {m : MethodId} {args : Array Value} {below : List Frame} {meth : Method} {c : Code} {H : Heap} {locs : List Loc} {cells slots : Nat} {Q : State → Prop} {cc : ByteArray} {own : String} {index pc : Nat} {ty : FieldType} {n k : Int32} {N M : Nat} {ls : Array Slot} {rest : List Value}
    (hexec : p.tables.exec = Jvm.exec) (hb : c.code = cc) (hown : s.vm.findClass own = some m.cls) (hclink : (Cond.classLink own index ("[" ++ (FieldType.array ty).toString)).before args s = true)
    (hover : (Cond.arrayOver (.array ty)).before args s = true) (harr : (Cond.arrayClass ty).before args s = true) (hn : ¬ n < 0) (hk : ¬ k < 0) (hN : n.toNatClampNeg = N) (hM : k.toNatClampNeg = M) (hb1 : N * 4 ≤ 536870912) (hb2 : M * componentBytes ty ≤ 536870912) (hb3 : M ≤ 536870912)
    (hdf : fits ty (defaultValue ty) = true) (hdd : (defaultValue ty).isDefault = true) (hcells : cells + (1 + N) ≤ R.cells) (hslots : slots + (N + N * M) ≤ R.slots) (d : decode cc pc = .ok (.multianewarray index 2, 4))
    (kk : ∀ (cA comp : ClassId) (H1 : Heap), s.vm.findClass ("[" ++ (FieldType.array ty).toString) = some cA → s.vm.findClass (FieldType.array ty).toString = some comp → H1.size = H.size + 1 + N → H1[H.size]? = some (arrV cA N (fun j => .ref (H.size + 1 + j))) → (∀ j, j < N → H1[H.size + 1 + j]? = some (arrV comp M (fun _ => defaultValue ty))) → (∀ q : Nat, q < H.size → H1[q]? = H[q]?) →
      W p l e R s m args below meth c H1 locs (cells + 1 + N) (slots + N + N * M) Q (F0 m (pc + 4) ls (.ref H.size :: rest))) : W p l e R s m args below meth c H locs cells slots Q (F0 m pc ls (.int k :: .int n :: rest)) := by
  subst hN hM
  intro T hT X
  subst hT
  obtain ⟨vm₁, cA, comp, hW1, hfA, hfC, -, -, X1, step⟩ := X.multianewarray2F hexec hown hclink hover harr (g := F0 m pc ls (.int k :: .int n :: rest)) rfl (by rw [hb]; exact d) (n := n) (k := k) (rest := rest) rfl hn hk hb1 hb2 hb3 hdf hdd hcells hslots
  obtain ⟨f1, f2, f3, f4⟩ := Jvm.Free.Multi.fill_facts (T.setVm vm₁) cA comp n.toNatClampNeg k.toNatClampNeg (defaultValue ty) n.toNatClampNeg
  have hf2 : (Jvm.Free.Multi.fill (T.setVm vm₁) cA comp n.toNatClampNeg k.toNatClampNeg (defaultValue ty) n.toNatClampNeg).heap[T.heap.size]? = some (arrV cA n.toNatClampNeg (fun j => .ref (T.heap.size + 1 + j))) := by
    have f2' : (Jvm.Free.Multi.fill (T.setVm vm₁) cA comp n.toNatClampNeg k.toNatClampNeg (defaultValue ty) n.toNatClampNeg).heap[T.heap.size]? = some (Jvm.Free.Multi.outerC cA n.toNatClampNeg T.heap.size n.toNatClampNeg) := f2
    rw [f2', outerC_arrV]
    congr 1
    unfold arrV
    congr 2
    funext j
    exact if_pos j.isLt
  obtain ⟨t, a1, b1⟩ := kk cA comp _ hfA hfC f1 hf2 (fun j hj => by
    have h := Jvm.Free.Multi.fill_inner (T.setVm vm₁) cA comp n.toNatClampNeg k.toNatClampNeg (defaultValue ty) n.toNatClampNeg j hj
    rw [← arrV_new]
    exact h) (fun q hq => Jvm.Free.Multi.fill_old (T.setVm vm₁) cA comp _ _ _ hq _) _ rfl X1
  exact ⟨t, step t a1, b1⟩
def newM (z n : Nat) (d : Int) (g : GS) : GS := (g.1, fun o k => if o = z then ((z + 1 + k : Nat) : Int) else if z < o ∧ o ≤ z + n then d else gA g o k)
def kuM (K : Nat → Nat) (z n kO kI : Nat) : Nat → Nat := fun o => if o = z then kO else if z < o ∧ o ≤ z + n then kI else K o
theorem kuM_ne {K : Nat → Nat} {z n kO kI o : Nat} (h : o < z ∨ z + n < o) : kuM K z n kO kI o = K o := by
  unfold kuM
  rw [if_neg (by omega), if_neg (by omega)]
theorem kuM_z {K : Nat → Nat} {z n kO kI : Nat} : kuM K z n kO kI z = kO := if_pos rfl
theorem kuM_in {K : Nat → Nat} {z n kO kI o : Nat} (h1 : z < o) (h2 : o ≤ z + n) : kuM K z n kO kI o = kI := by
  unfold kuM
  rw [if_neg (by omega), if_pos ⟨h1, h2⟩]
theorem over_at {D : va_G} {b : Nat} {s : State} {H : Heap} {args : Array Value} {t : FieldType} (h : SF D b s H) (q : Cond.arrayOver (.array t) ∈ lw_tbl) : (Cond.arrayOver (.array t)).before args s = true := by
  obtain ⟨u0, b0, h1, h2, h3, -⟩ := h
  exact over_moved h3.alike (h2 _ q)
section ENGU
variable {x : CT} {cc bytes : ByteArray} {nL maxL : Nat} {own C : String} {ret ret' : Option FieldType} {rm : Room} {K K' : Nat → Nat} {ce sl sz z z0 : Nat} {g g' : GS} {pc : Nat} {L : List (Nat × Value)} {st rest As s0 s1 : List Value} {y : MethodName} {fr lo fr' lo' o idx n e i : Nat} {as : Nat → List Value}
theorem V_multi {tO tI N M : Nat} {ty : FieldType} {dI : Int} (hX : XOK x cc nL own ret rm) (hO : 4 ≤ tO) (hO8 : tO < 8) (hI : (tI = 0 ∧ dI = 0 ∧ defaultValue ty = .int 0) ∨ (4 ≤ tI ∧ tI < 8 ∧ dI = -1 ∧ defaultValue ty = .null)) (hN : N < 10000) (hM : M < 10000) (hcb : componentBytes ty ≤ 8)
    (htO : (tysA x.2.2.2.1)[tO]? = some (x.2.2.2.1 tO, .array ty)) (htI : (tysA x.2.2.2.1)[tI]? = some (x.2.2.2.1 tI, ty)) (hk : Cond.classLink own idx ("[" ++ (FieldType.array ty).toString) ∈ lw_all) (hov : Cond.arrayOver (.array ty) ∈ lw_tbl) (har : Cond.arrayClass ty ∈ lw_all) (hRA : ∀ (U : State) (c : ClassId), va_RA U c ty → U.vm.findClass ("[" ++ ty.toString) = some c) (hnmI : "[" ++ ty.toString = (FieldType.array ty).toString) (hA : ∀ q, xb x + sz ≤ q → x.2.1.2.2.2.2.2 q) (hdf : fits ty (defaultValue ty) = true) (hdd : (defaultValue ty).isDefault = true) (hcc : ce + (1 + N) ≤ rm.cells ∧ sl + (N + N * M) ≤ rm.slots) (d : decode cc pc = .ok (.multianewarray idx 2, 4))
    (k : V x nL (kuM K sz N (10000 * (tO + 1) + N) (10000 * (tI + 1) + M)) (ce + 1 + N) (sl + N + N * M) (sz + 1 + N) (newM sz N dI g) (pc + 4) L (.ref (xb x + sz) :: st)) : V x nL K ce sl sz g pc L (vI M :: vI N :: st) := by
  obtain ⟨hx, hb, hml, hown, hts, hr, hlk, hKK, hrm, hSF, hAb, hfl⟩ := hX
  intro H locs ls hS hl'
  have zn : (Int32.ofInt (N : Int)).toInt = N := w32_of (by omega) (by omega)
  have zm : (Int32.ofInt (M : Int)).toInt = M := w32_of (by omega) (by omega)
  have hs : H.size = xb x + sz := hS.2.2.1
  refine W_multi hx hb hown (hts _ hk) (over_at hSF hov) (hts _ har) (N := N) (M := M) (fun q => by
      have q2 := lt0_iff32.mp q
      unfold w32 at q2
      omega) (fun q => by
      have q2 := lt0_iff32.mp q
      unfold w32 at q2
      omega) (by show (Int32.ofInt (N : Int)).toInt.toNat = N; rw [zn]; rfl) (by show (Int32.ofInt (M : Int)).toInt.toNat = M; rw [zm]; rfl) (by omega) (by have := Nat.mul_le_mul (Nat.le_of_lt hM) hcb; omega) (by omega) hdf hdd (by rw [hrm]; exact hcc.1) (by rw [hrm]; exact hcc.2) d fun cA comp H1 fA fC z1 e1 i1 o1 => ?_
  have hcA : cA = x.2.2.2.1 tO := by
    have hnm : x.1.2.2.2.2.1.vm.findClass ("[" ++ (FieldType.array ty).toString) = some (x.2.2.2.1 tO) := (hKK.2 tO _ htO).2
    exact Option.some.inj (fA.symm.trans hnm)
  have hcI : comp = x.2.2.2.1 tI := by
    have hnm := hRA _ _ (hKK.2 tI _ htI).2
    rw [hnmI] at hnm
    exact Option.some.inj (fC.symm.trans hnm)
  rw [hs] at z1 e1 i1 o1 ⊢
  rw [hcA] at e1
  rw [hcI] at i1
  refine k H1 locs ls ⟨fun q => ?_, fun q hq => ?_, by rw [z1]; omega, ⟨by rw [z1]; have := hS.2.2.2.1; omega, fun q h1 h2 => by rw [o1 q (by rw [← hs]; exact Nat.lt_of_lt_of_le h1 hS.2.2.2.1)]; exact hS.2.2.2.2.1 q h1 h2, hS.2.2.2.2.2⟩⟩ hl'
  · by_cases hlt : q < sz ∨ sz + N < q
    · rw [kuM_ne hlt]
      have h1 : cOK x.2.2.1 x.2.2.2.1 (xb x) g q (K q) H1 := by
        rcases hlt with hlt | hlt
        · exact (hS.1 q).lt (fun q' h => o1 q' (by rw [← hs]; exact h))
        · exact (hS.1 q).lt (fun q' h => o1 q' (by rw [← hs]; exact h))
      refine h1.kept rfl (fun f => rfl) (fun j => ?_)
      show (if q = sz then _ else if sz < q ∧ q ≤ sz + N then dI else gA g q j) = gA g q j
      rw [if_neg (by omega), if_neg (by omega)]
    · by_cases hq : q = sz
      · subst hq
        rw [kuM_z]
        refine ⟨fun ci' hc' e' => by omega, fun t n ht hn e => by omega, fun t n h4 ht hn e => ?_, fun i hi e => by omega⟩
        have e2 : t = tO := by omega
        have e3 : n = N := by omega
        subst e2 e3
        rw [e1, vp_cell_q]
        congr 2
        funext j
        have e4 : gA (newM q n dI g) q j = ((q + 1 + j : Nat) : Int) := if_pos rfl
        rw [e4, rvo_nat]
        show Value.ref (xb x + q + 1 + j) = Value.ref (xb x + (q + 1 + j))
        exact congrArg Value.ref (show (xb x + q + 1 + j : Nat) = xb x + (q + 1 + j) by omega)
      · rw [kuM_in (by omega) (by omega)]
        have e4 : ∀ j, gA (newM sz N dI g) q j = dI := fun j => by
          show (if q = sz then _ else if sz < q ∧ q ≤ sz + N then dI else gA g q j) = dI
          rw [if_neg hq, if_pos (by omega)]
        have hi := i1 (q - sz - 1) (by omega)
        rw [show xb x + sz + 1 + (q - sz - 1) = xb x + q by omega] at hi
        rcases hI with ⟨hI, hdI, hd⟩ | ⟨hI, hI8, hdI, hd⟩
        · refine ⟨fun ci' hc' e' => by omega, fun t n ht hn e => ?_, fun t n h4 ht hn e => by omega, fun i hi e => by omega⟩
          have e2 : t = tI := by omega
          have e3 : n = M := by omega
          subst e2 e3
          rw [hi, arrC_i (by omega), vp_cell_i, hd]
          congr 2
          funext j
          rw [e4, hdI]
          rfl
        · refine ⟨fun ci' hc' e' => by omega, fun t n ht hn e => by omega, fun t n h4 ht hn e => ?_, fun i hi e => by omega⟩
          have e2 : t = tI := by omega
          have e3 : n = M := by omega
          subst e2 e3
          rw [hi, vp_cell_q, hd]
          congr 2
          funext j
          rw [e4, hdI]
          rfl
  · by_cases hlt : q < sz
    · rw [kuM_ne (Or.inl hlt)] at hq
      exact hS.2.1 q hq
    · exact hA _ (by omega)
end ENGU
/-! raw kinds done -/
def dnI (ci o : Nat) (g : GS) : GS := (fun f o' => if o' = o ∧ f / 100 = ci then gI g (f + 1700) o else gI g f o', g.2)
def dnOK (ci o : Nat) (K : Nat → Nat) (g : GS) : Prop :=
  (∀ j, j < 80 → ((lt_ ci j).1 = 1 → gI g (100 * (ci + 17) + j) o = (o + (lt_ ci j).2 : Nat)) ∧ ((lt_ ci j).1 = 2 → gI g (100 * (ci + 17) + j) o = ((lt_ ci j).2 : Nat))) ∧ ∀ j, j < (blkK ci).length → j ≠ 0 → (blkK ci).getD j 0 ≠ 0 → K (o + j) = (blkK ci).getD j 0
theorem lt_raw : ∀ ci, ci < 17 → ∀ j, j < 80 → ((lt_ ci j).1 = 0 → (lt_ (ci + 17) j).1 = 0) ∧ ((lt_ ci j).1 = 1 → (lt_ (ci + 17) j).1 = 3) ∧ ((lt_ ci j).1 = 2 → (lt_ (ci + 17) j).1 = 3) ∧ ((lt_ ci j).1 = 3 → (lt_ (ci + 17) j).1 = 3) ∧ ((lt_ ci j).1 = 4 → (lt_ (ci + 17) j).1 = 4) ∧ ((lt_ ci j).1 < 5 ∨ (lt_ ci j).1 = (lt_ (ci + 17) j).1) := by decide +kernel
theorem gI_dn {ci o j : Nat} {g : GS} (hj : j < 100) : gI (dnI ci o g) (100 * ci + j) o = gI g (100 * (ci + 17) + j) o := by
  show (if o = o ∧ (100 * ci + j) / 100 = ci then gI g (100 * ci + j + 1700) o else gI g (100 * ci + j) o) = _
  rw [if_pos ⟨rfl, by omega⟩, show 100 * ci + j + 1700 = 100 * (ci + 17) + j by omega]
theorem fv_dn {b ci o j : Nat} {K : Nat → Nat} {g : GS} (hci : ci < 17) (hj : j < 80) (h : dnOK ci o K g) : fv b (dnI ci o g) o ci j = fv b g o (ci + 17) j := by
  obtain ⟨r0, r1, r2, r3, r4, r5⟩ := lt_raw ci hci j hj
  obtain ⟨k1, k2⟩ := h.1 j hj
  have e := gI_dn (ci := ci) (o := o) (g := g) (j := j) (by omega)
  by_cases h0 : (lt_ ci j).1 = 0
  · rw [fv_0 h0, fv_0 (r0 h0), e]
  by_cases h1 : (lt_ ci j).1 = 1
  · rw [fv_1 h1 rfl, fv_3 (r1 h1), k1 h1, rvo_nat]
    rfl
  by_cases h2 : (lt_ ci j).1 = 2
  · rw [fv_2 h2 rfl, fv_3 (r2 h2), k2 h2, rvo_nat]
    rfl
  by_cases h4 : (lt_ ci j).1 = 4
  · rw [fv_4 h4, fv_4 (r4 h4), e]
  by_cases h3 : (lt_ ci j).1 = 3
  · rw [fv_3 h3, fv_3 (r3 h3), e]
  · have h5 : (lt_ ci j).1 = (lt_ (ci + 17) j).1 := by omega
    unfold fv
    rw [← h5]
    split
    · omega
    · omega
    · omega
    · omega
    · rw [e]
theorem V_done {x : CT} {cc : ByteArray} {nL ci N o : Nat} {own C : String} {T : u_T} {ret : Option FieldType} {rm : Room} {K : Nat → Nat} {ce sl sz : Nat} {g : GS} {pc : Nat} {L : List (Nat × Value)} {st : List Value} (hX : XOK x cc nL own ret rm) (hc : clT[ci]? = some (C, T, N)) (hc2 : clT[ci + 17]? = some (C, T, N)) (hci : ci < 17) (hN : N ≤ 80) (hK : K o = ci + 18) (hd : dnOK ci o K g) (k : V x nL (ku K o (ci + 1)) ce sl sz (dnI ci o g) pc L st) : V x nL K ce sl sz g pc L st := by
  obtain ⟨hx, hb, hml, hown, hts, hr, hlk, hKK, -⟩ := hX
  intro H locs ls hS hl
  refine k H locs ls ⟨fun q => ?_, fun q hq => ?_, hS.2.2.1, hS.2.2.2⟩ hl
  · by_cases e : q = o
    · subst e
      rw [ku_self]
      refine ⟨fun ci' hc' e' => ?_, fun t n ht hn e => by omega, fun t n h4 ht hn e => by omega, fun i hi e => by omega⟩
      have e2 : ci' = ci := by omega
      subst e2
      obtain ⟨r, h1, cell, q1, q2, q3, q4⟩ := (hS.1 q).1 (ci' + 17) (by omega) (by omega)
      cases hc2.symm.trans h1
      obtain ⟨a2, afc, -⟩ := hKK.1 ci' _ hc
      obtain ⟨b2, bfc, -⟩ := hKK.1 (ci' + 17) _ hc2
      have hcls : x.2.2.1.1 (ci' + 17) = x.2.2.1.1 ci' := Option.some.inj (bfc.symm.trans afc)
      refine ⟨_, hc, cell, q1, by rw [← hcls]; exact q2, q3, fun j hj => ?_⟩
      obtain ⟨cf, kf, fi, f, hi, hsl⟩ := a2 j hj
      obtain ⟨cf', kf', fi', f', hi', hsl'⟩ := b2 j hj
      cases hi.symm.trans hi'
      rw [fv_dn hci (Nat.lt_of_lt_of_le hj hN) hd, ← q4 j hj, ← hsl, ← hsl']
    · rw [ku_ne e]
      refine (hS.1 q).kept rfl (fun f => ?_) (fun j => rfl)
      show (if q = o ∧ f / 100 = ci then _ else gI g f q) = gI g f q
      rw [if_neg (fun z => e z.1)]
  · by_cases e : q = o
    · subst e
      exact hS.2.1 q (by omega)
    · rw [ku_ne e] at hq
      exact hS.2.1 q hq
theorem kx_raw : ∀ i, i < 350 → kx0 i < 18 ∨ 200 ≤ kx0 i := by decide +kernel
theorem blk_raw (ci : Nat) : ∀ v ∈ blkK ci, v < 18 ∨ 200 ≤ v := by
  unfold blkK
  split <;> decide
theorem blk_hd (ci : Nat) (h : 0 < (blkK ci).length) : (blkK ci).getD 0 0 = ci + 1 := by
  unfold blkK at h ⊢
  split
  all_goals first
    | rfl
    | (rename_i q; simp at h)
    | (simp at h)
theorem KS.done {wf : Bool} {K0 K : Nat → Nat} {z0 z o ci : Nat} {g : GS} (h : KS wf K0 z0 K z) (ho : z0 ≤ o) (hci : ci < 17) (hK : K o = ci + 18) (hd : dnOK ci o K g) : KS wf K0 z0 (ku K o (ci + 1)) z := by
  have hz : o < z := h.no o (by omega)
  refine ⟨h.1, h.2.1, fun q hq => by rw [ku_ne (by omega)]; exact h.2.2.1 q hq, fun q hq => by rw [ku_ne (by omega)]; exact h.2.2.2.1 q hq, fun hw => ?_⟩
  have hW := h.2.2.2.2 hw
  have h350 : ¬ o < 350 := fun q => by
    have e1 := hW.1.1 o q
    have e2 := kx_raw o q
    omega
  refine ⟨⟨fun i hi => by rw [ku_ne (by omega)]; exact hW.1.1 i hi, fun q ci' hc' hq j hj hn => ?_⟩, hW.2.1, fun q hq => by rw [ku_ne (by omega)]; exact hW.2.2 q hq⟩
  by_cases e : q = o
  · subst e
    rw [ku_self] at hq
    have e2 : ci' = ci := by omega
    subst e2
    by_cases hj0 : j = 0
    · subst hj0
      show ku K q (ci' + 1) q = _
      rw [ku_self, blk_hd ci' hj]
    · rw [ku_ne (by omega)]
      exact hd.2 j hj hj0 hn
  · rw [ku_ne e] at hq
    have e1 := hW.1.2 q ci' hc' hq j hj hn
    by_cases e2 : q + j = o
    · rw [e2, hK] at e1
      have e3 := blk_raw ci' ((blkK ci').getD j 0) (by rw [List.getD_eq_getElem?_getD, List.getElem?_eq_getElem hj]; exact List.getElem_mem hj)
      omega
    · rw [ku_ne e2]
      exact e1
theorem KS.here {wf : Bool} {K0 K : Nat → Nat} {z0 z : Nat} (h : KS wf K0 z0 K z) : KS wf K z K z := ⟨Nat.le_refl _, h.2.1, h.2.2.1, fun _ _ => rfl, h.2.2.2.2⟩
theorem KS.upw {wf : Bool} {K0 K : Nat → Nat} {z0 z kd : Nat} (h : KS wf K0 z0 K z) (hm : z + 1 ≤ MX) (hb : blkK (kd - 1) = []) : KS wf K0 z0 (ku K z kd) (z + 1) := ⟨Nat.le_succ_of_le h.1, hm, fun o ho => by rw [ku_ne (by omega)]; exact h.2.2.1 o (by omega), fun o ho => by rw [ku_ne (by have := h.1; omega)]; exact h.2.2.2.1 o ho, fun hw => (h.2.2.2.2 hw).up hb⟩
theorem KS.kEw {wf : Bool} {K0 K : Nat → Nat} {z0 z : Nat} (e : Nat) (h : KS wf K0 z0 K z) (hm : z + 1 ≤ MX) : KS wf K0 z0 (kE e K z) (z + 1) := by
  by_cases h3 : e = 3
  · subst h3
    rw [kE3]
    exact h.upw hm rfl
  · rw [kE_ne h3]
    exact ⟨Nat.le_succ_of_le h.1, hm, fun o ho => h.2.2.1 o (by omega), h.2.2.2.1, fun hw => ⟨(h.2.2.2.2 hw).1, by have := (h.2.2.2.2 hw).2.1; omega, fun o ho => (h.2.2.2.2 hw).2.2 o (by omega)⟩⟩
theorem KS.upM {wf : Bool} {K0 K : Nat → Nat} {z0 z n kO kI : Nat} (h : KS wf K0 z0 K z) (hm : z + 1 + n ≤ MX) (hb : blkK (kO - 1) = []) (hb2 : blkK (kI - 1) = []) (hkO : 100 < kO) (hkI : 100 < kI) : KS wf K0 z0 (kuM K z n kO kI) (z + 1 + n) := by
  refine ⟨by have := h.1; omega, hm, fun o ho => by rw [kuM_ne (by omega)]; exact h.2.2.1 o (by omega), fun o ho => by rw [kuM_ne (by have := h.1; omega)]; exact h.2.2.2.1 o ho, fun hw => ?_⟩
  have hW := h.2.2.2.2 hw
  refine ⟨⟨fun i hi => by rw [kuM_ne (by have := hW.2.1; omega)]; exact hW.1.1 i hi, fun q ci hc hq j hj hn => ?_⟩, by have := hW.2.1; omega, fun o ho => by rw [kuM_ne (by omega)]; exact hW.2.2 o (by omega)⟩
  by_cases e : q < z
  · rw [kuM_ne (Or.inl e)] at hq
    have e1 := hW.1.2 q ci hc hq j hj hn
    have e2 : q + j < z := Nat.not_le.mp fun hz => hn (by rw [← e1]; exact hW.2.2 _ hz)
    rw [kuM_ne (Or.inl e2)]
    exact e1
  · exfalso
    by_cases e1 : q = z
    · subst e1
      rw [kuM_z] at hq
      omega
    · by_cases e2 : q ≤ z + n
      · rw [kuM_in (by omega) e2] at hq
        omega
      · rw [kuM_ne (Or.inr (by omega)), hW.2.2 q (by omega)] at hq
        omega
theorem ku_kp {wf : Bool} {K0 K : Nat → Nat} {z0 z o v kd : Nat} (h : KS wf K0 z0 K z) (ho : K o = v) (hv : v ≠ 0 := by first | decide | omega) : ku K z kd o = v := by
  have := h.no o (by omega)
  rw [ku_ne (by omega)]
  exact ho
theorem kE_kp {wf : Bool} {K0 K : Nat → Nat} {z0 z o v e : Nat} (h : KS wf K0 z0 K z) (ho : K o = v) (hv : v ≠ 0 := by first | decide | omega) : kE e K z o = v := by
  have := h.no o (by omega)
  unfold kE
  rw [if_neg (by omega)]
  exact ho
theorem kuM_kp {wf : Bool} {K0 K : Nat → Nat} {z0 z o v n kO kI : Nat} (h : KS wf K0 z0 K z) (ho : K o = v) (hv : v ≠ 0 := by first | decide | omega) : kuM K z n kO kI o = v := by
  have := h.no o (by omega)
  rw [kuM_ne (by omega)]
  exact ho
theorem ku_kd {K : Nat → Nat} {o o' v ci : Nat} (hK : K o = ci + 18) (ho : K o' = v) (hne : v ≠ ci + 18 := by first | decide | omega) : ku K o (ci + 1) o' = v := by
  rw [ku_ne (fun e => by subst e; omega)]
  exact ho
theorem KS.kp {wf : Bool} {K0 K K1 : Nat → Nat} {z0 z z1 o v : Nat} (h : KS wf K0 z0 K z) (h1 : KS wf K z K1 z1) (ho : K o = v) (hv : v ≠ 0 := by first | decide | omega) : K1 o = v := (h1.2.2.2.1 o (h.no o (by omega))).trans ho
def dnB (ci o : Nat) (K : Nat → Nat) (g : GS) : Bool := ((List.range 80).all fun j => ((lt_ ci j).1 != 1 || gI g (100 * (ci + 17) + j) o == ((o + (lt_ ci j).2 : Nat) : Int)) && ((lt_ ci j).1 != 2 || gI g (100 * (ci + 17) + j) o == (((lt_ ci j).2 : Nat) : Int))) && (List.range (blkK ci).length).all fun j => j == 0 || (blkK ci).getD j 0 == 0 || K (o + j) == (blkK ci).getD j 0
theorem dnB_iff {ci o : Nat} {K : Nat → Nat} {g : GS} : dnB ci o K g = true ↔ dnOK ci o K g := by
  unfold dnB dnOK
  simp only [Bool.and_eq_true, List.all_eq_true, List.mem_range, Bool.or_eq_true, bne_iff_ne, beq_iff_eq]
  constructor
  · intro h
    refine ⟨fun j hj => ⟨fun e => ?_, fun e => ?_⟩, fun j hj h0 hn => ?_⟩
    · exact (h.1 j hj).1.resolve_left (fun q => q e)
    · exact (h.1 j hj).2.resolve_left (fun q => q e)
    · rcases h.2 j hj with (q | q) | q
      · exact absurd q h0
      · exact absurd q hn
      · exact q
  · intro h
    refine ⟨fun j hj => ⟨?_, ?_⟩, fun j hj => ?_⟩
    · by_cases e : (lt_ ci j).1 = 1
      · exact Or.inr ((h.1 j hj).1 e)
      · exact Or.inl e
    · by_cases e : (lt_ ci j).1 = 2
      · exact Or.inr ((h.1 j hj).2 e)
      · exact Or.inl e
    · by_cases h0 : j = 0
      · exact Or.inl (Or.inl h0)
      by_cases hn : (blkK ci).getD j 0 = 0
      · exact Or.inl (Or.inr hn)
      · exact Or.inr (h.2 j hj h0 hn)
def dnP {α : Type} (ci o : Nat) (K : Nat → Nat) (g : GS) (x : Option α) : Option α := if dnB ci o K g = true then x else none
theorem dnP_some {α : Type} {ci o : Nat} {K : Nat → Nat} {g : GS} {x : Option α} {r : α} (h : dnP ci o K g x = some r) : dnOK ci o K g ∧ x = some r := by
  unfold dnP at h
  split at h
  · rename_i q
    exact ⟨dnB_iff.mp q, h⟩
  · cases h
theorem dnP_eq {α : Type} {ci o : Nat} {K : Nat → Nat} {g : GS} {x : Option α} (h : dnOK ci o K g) : dnP ci o K g x = x := if_pos (dnB_iff.mpr h)
/-! the readers' words, stored one by one -/
theorem arrV_cong (c : ClassId) (N : Nat) (f f' : Nat → Value) (h : ∀ k, k < N → f k = f' k) : arrV c N f = arrV c N f' := by
  unfold arrV
  congr 2
  funext j
  exact h j.val j.isLt
/-- the array of words born z-th holds its first m words -/
def VW (x : CT) (nL : Nat) (K : Nat → Nat) (ce sl sz : Nat) (g : GS) (z i m : Nat) (pc : Nat) (L : List (Nat × Value)) (st : List Value) : Prop :=
  ∀ (H : Heap) (locs : List Loc) (ls : Array Slot), WS x K sz g H locs → H[xb x + z]? = some (arrV (x.2.2.2.1 8) (wln i) (fun k => va_rf (if k < m then some (x.2.2.1.2 1000 (wix i k)) else none))) → lv_has ls nL L →
    W x.1.1 x.1.2.1 x.1.2.2.1 x.1.2.2.2.1 x.1.2.2.2.2.1 x.1.2.2.2.2.2 x.2.1.1 x.2.1.2.1 x.2.1.2.2.1 x.2.1.2.2.2.1 H locs ce sl x.2.1.2.2.2.2.1 (F0 x.1.2.2.2.2.2 pc ls st)
section ENGWD
variable {x : CT} {cc bytes : ByteArray} {nL maxL : Nat} {own C : String} {ret ret' : Option FieldType} {rm : Room} {K K' : Nat → Nat} {ce sl sz z z0 : Nat} {g g' : GS} {pc : Nat} {L : List (Nat × Value)} {st rest As s0 s1 : List Value} {y : MethodName} {fr lo fr' lo' o idx n e i m : Nat} {as : Nat → List Value}
theorem V_anewS {N : Nat} (hX : XOK x cc nL own ret rm) (hk : Cond.classLink own idx "java/lang/String" ∈ lw_all) (hw : Cond.arrayOver (.object "java/lang/String") ∈ lw_tbl) (hN : wln i = N) (hA : x.2.1.2.2.2.2.2 (xb x + sz)) (hcc : ce + 1 ≤ rm.cells ∧ sl + N ≤ rm.slots) (d : decode cc pc = .ok (.anewarray idx, 3))
    (k : VW x nL K (ce + 1) (sl + N) (sz + 1) g sz i 0 (pc + 3) L (.ref (xb x + sz) :: st)) : V x nL K ce sl sz g pc L (vI N :: st) := by
  subst hN
  obtain ⟨hx, hb, hml, hown, hts, hr, hlk, hKK, hrm, hSF, hAb, hfl⟩ := hX
  intro H locs ls hS hl'
  have hN : wln i ≤ 12 := by unfold wln; split <;> omega
  have zn : (Int32.ofInt (wln i : Int)).toInt = wln i := w32_of (by omega) (by omega)
  have hs : H.size = xb x + sz := hS.2.2.1
  have hnn : (Int32.ofInt (wln i : Int)).toNatClampNeg = wln i := by show ((Int32.ofInt (wln i : Int)).toInt).toNat = wln i; rw [zn]; rfl
  refine W.anew hx hb hown (hts _ hk) (va_AO.use (ao_at hSF hw)) rfl d rfl (fun q => by
      have q2 := lt0_iff32.mp q
      unfold w32 at q2
      omega) (by rw [hnn]; omega) (by rw [hrm]; exact hcc.1) (by rw [hrm, hnn]; exact hcc.2) fun cA kA comp f1 f2 f3 f4 => ?_
  rw [hnn]
  have hcA : cA = x.2.2.2.1 8 := by
    obtain ⟨_, _, _, _, _, hnm⟩ := (hKK.2 8 _ rfl).2
    exact Option.some.inj (f1.symm.trans hnm)
  generalize hH1 : H.push ({ cls := cA, slots := Array.replicate (wln i) .null, vm := .none } : Cell) = H1
  have z1 : H1.size = H.size + 1 := by rw [← hH1, Array.size_push]
  have e1 : H1[H.size]? = some (arrV cA (wln i) (fun _ => .null)) := by rw [← hH1, Array.getElem?_push_size, ← arrV_new]
  have o1 : ∀ q : Nat, q < H.size → H1[q]? = H[q]? := fun q hq => by rw [← hH1, Array.getElem?_push, if_neg (Nat.ne_of_lt hq)]
  rw [hs] at z1 e1 o1 ⊢
  rw [hcA] at e1
  refine k H1 locs ls ⟨fun o => (hS.1 o).lt (fun q hq => o1 q (by rw [← hs]; exact hq)), hS.2.1, by rw [z1]; omega, ⟨by rw [z1, ← hs]; exact Nat.le_succ_of_le hS.2.2.2.1, fun q h1 h2 => by rw [o1 q (by rw [← hs]; exact Nat.lt_of_lt_of_le h1 hS.2.2.2.1)]; exact hS.2.2.2.2.1 q h1 h2, hS.2.2.2.2.2⟩⟩ ?_ hl'
  rw [e1]
  congr 1
theorem VW_dup (hX : XOK x cc nL own ret rm) {v : Value} (d : decode cc pc = .ok (.dup, 1)) (hc : v.category = 1) (k : VW x nL K ce sl sz g z i m (pc + 1) L (v :: v :: st)) : VW x nL K ce sl sz g z i m pc L (v :: st) := by
  obtain ⟨hx, hb, -⟩ := hX
  exact fun H locs ls hS hE hl => lv_dup hx hb d hc (k H locs ls hS hE hl)
theorem VW_iconst (hX : XOK x cc nL own ret rm) {n : Int} (d : decode cc pc = .ok (.iconst n, 1)) (k : VW x nL K ce sl sz g z i m (pc + 1) L (vI n :: st)) : VW x nL K ce sl sz g z i m pc L st := by
  obtain ⟨hx, hb, -⟩ := hX
  exact fun H locs ls hS hE hl => lv_iconst hx hb d rfl (k H locs ls hS hE hl)
theorem VW_bipush (hX : XOK x cc nL own ret rm) {n : Int} (d : decode cc pc = .ok (.bipush n, 2)) (hn : (Int8.ofInt n).toInt32 = Int32.ofInt n) (k : VW x nL K ce sl sz g z i m (pc + 2) L (vI n :: st)) : VW x nL K ce sl sz g z i m pc L st := by
  obtain ⟨hx, hb, -⟩ := hX
  exact fun H locs ls hS hE hl => lv_bipush hx hb d hn (k H locs ls hS hE hl)
theorem VW_ldcS {tx : String} {sa : Nat} (hX : XOK x cc nL own ret rm) (hZ : vk_R own idx tx sa x.1.2.2.2.2.1) (d : decode cc pc = .ok (.ldc idx, 2)) (k : VW x nL K ce sl sz g z i m (pc + 2) L (.ref sa :: st)) : VW x nL K ce sl sz g z i m pc L st := by
  obtain ⟨hx, hb, hml, hown, hts, hr, hlk, hKK, hrm, hSF, hAb, hfl⟩ := hX
  exact fun H locs ls hS hE hl => va_ldcS hx hb hown hZ d (k H locs ls hS hE hl)
theorem VW_aast (hX : XOK x cc nL own ret rm) (hz : K z = 0) (hA : x.2.1.2.2.2.2.2 (xb x + z)) (hm : m < wln i) (d : decode cc pc = .ok (.aastore, 1)) (k : VW x nL K ce sl sz g z i (m + 1) (pc + 1) L st) : VW x nL K ce sl sz g z i m pc L (.ref (x.2.2.1.2 1000 (wix i m)) :: vI m :: .ref (xb x + z) :: st) := by
  obtain ⟨hx, hb, hml, hown, hts, hr, hlk, hKK, hrm, hSF, hAb, hfl⟩ := hX
  intro H locs ls hS hE hl'
  have hN : wln i ≤ 12 := by unfold wln; split <;> omega
  have hin : 0 ≤ w32 (m : Int) ∧ w32 (m : Int) < wln i := by rw [w32_of (by omega) (by omega)]; omega
  have hmm : (Int32.ofInt (m : Int)).toNatClampNeg = m := by
    show (w32 (m : Int)).toNat = m
    rw [w32_of (by omega) (by omega)]
    rfl
  have hSTR := (hSF.strD (wix i m) (wix_lt hm)).on (State.WarmedH.refl _) hAb hS.2.2.2
  obtain ⟨_, ⟨cs, c1, c2, c3, -⟩, -⟩ := hSTR
  obtain ⟨kA, comp, k1, k2, k3, -⟩ := (hKK.2 8 _ rfl).2
  have hcomp : comp = cs.cls := Option.some.inj (k3.symm.trans c3)
  subst hcomp
  obtain ⟨kS, hkS, -⟩ := Vm.findClass_spec k3
  refine W.aast hx hb hE (fun q h => by cases h) (fun h => by cases h) k1 k2 rfl hkS ⟨fun q => inb_of hin (Or.inl q), by rw [arrV_size]; exact inb_lt hin⟩ c1 (fun q h => by rw [h] at c2; cases c2) hkS (asg_rf _ _) rfl rfl d fun H1 e z1 oq => ?_
  refine k H1 _ ls ⟨fun o' => ?_, hS.2.1, z1.trans hS.2.2.1, hS.2.2.2.put z1 oq hA⟩ ?_ hl'
  · by_cases e1 : o' = z
    · subst e1
      rw [hz]
      exact cOK.none
    · exact (hS.1 o').kept (oq _ (fun q => e1 (Nat.add_left_cancel q))) (fun f => rfl) (fun j => rfl)
  · rw [e, arrV_store, hmm]
    congr 1
    refine arrV_cong _ _ _ _ (fun j hj => ?_)
    unfold updV
    dsimp only
    by_cases e1 : j = m
    · subst e1
      rw [if_pos rfl, if_pos (Nat.lt_succ_self j)]
      rfl
    · rw [if_neg e1]
      by_cases e2 : j < m
      · rw [if_pos e2, if_pos (Nat.lt_succ_of_lt e2)]
      · rw [if_neg e2, if_neg (by omega)]
theorem VW_end (hi : i < 2) (hA : x.2.1.2.2.2.2.2 (xb x + z)) (hm : m = wln i) (k : V x nL (ku K z (200 + i)) ce sl sz g pc L st) : VW x nL K ce sl sz g z i m pc L st := by
  subst hm
  intro H locs ls hS hE hl'
  refine k H locs ls ⟨fun q => ?_, fun q hq => ?_, hS.2.2.1, hS.2.2.2⟩ hl'
  · by_cases e : q = z
    · subst e
      rw [ku_self]
      refine ⟨fun ci' hc' e' => by omega, fun t n ht hn e => by omega, fun t n h4 ht hn e => by omega, fun j hj e => ?_⟩
      have e1 : j = i := by omega
      subst e1
      rw [hE, vp_cell_q]
      congr 1
      exact arrV_cong _ _ _ _ (fun k hk => by rw [if_pos hk])
    · rw [ku_ne e]
      exact hS.1 q
  · by_cases e : q = z
    · rw [e]; exact hA
    · rw [ku_ne e] at hq
      exact hS.2.1 q hq
end ENGWD
/-! the rows by the count of cells -/
section ENGAF
variable {x : CT} {cc bytes : ByteArray} {nL maxL : Nat} {own C : String} {ret ret' : Option FieldType} {rm : Room} {K K' : Nat → Nat} {ce sl sz z z0 : Nat} {g g' : GS} {pc : Nat} {L : List (Nat × Value)} {st rest As s0 s1 : List Value} {y : MethodName} {fr lo fr' lo' o idx n e i m : Nat} {as : Nat → List Value}
theorem V_anewSA {N : Nat} (hX : XOK x cc nL own ret (rmA fr lo z0)) (hz : x.1.2.2.2.2.1.heap.size = xb x + z0) (hA : ∀ q, xb x + z0 ≤ q → x.2.1.2.2.2.2.2 q) (hm : z + 1 ≤ MX) (hk : Cond.classLink own idx "java/lang/String" ∈ lw_all) (hw : Cond.arrayOver (.object "java/lang/String") ∈ lw_tbl) (hN : wln i = N) (hN2 : N ≤ 600) (d : decode cc pc = .ok (.anewarray idx, 3))
    (k : VW x nL K (z + 1 - z0) (600 * (z + 1 - z0)) (z + 1) g z i 0 (pc + 3) L (.ref (xb x + z) :: st)) : V x nL K (z - z0) (600 * (z - z0)) z g pc L (vI N :: st) := by
  refine V_le hz fun h0 => ?_
  refine V_anewS hX hk hw hN (hA _ (by omega)) ⟨?_, ?_⟩ d (fun H locs ls hS hE hl T hT X => k H locs ls hS hE hl T hT (stand_widen X ?_ ?_))
  · show z - z0 + 1 ≤ MX - z0
    omega
  · show 600 * (z - z0) + N ≤ 600 * (MX - z0)
    omega
  · omega
  · omega
theorem V_anewarrA {t N : Nat} (hX : XOK x cc nL own ret (rmA fr lo z0)) (hz : x.1.2.2.2.2.1.heap.size = xb x + z0) (hA : ∀ q, xb x + z0 ≤ q → x.2.1.2.2.2.2.2 q) (hm : z + 1 ≤ MX) (ht : 4 ≤ t) (ht8 : t < 8) (hty : (tysA x.2.2.2.1)[t]? = some (x.2.2.2.1 t, .object C)) (hk : Cond.classLink own idx C ∈ lw_all) (hw : Cond.arrayOver (.object C) ∈ lw_tbl) (hN : N ≤ 600) (d : decode cc pc = .ok (.anewarray idx, 3))
    (k : V x nL (ku K z (10000 * (t + 1) + N)) (z + 1 - z0) (600 * (z + 1 - z0)) (z + 1) (newA z (-1) g) (pc + 3) L (.ref (xb x + z) :: st)) : V x nL K (z - z0) (600 * (z - z0)) z g pc L (vI N :: st) := by
  refine V_le hz fun h0 => ?_
  refine V_anewarr hX ht ht8 hty hk hw (by omega) (hA _ (by omega)) ⟨?_, ?_⟩ d (V_widen ?_ ?_ k)
  · show z - z0 + 1 ≤ MX - z0
    omega
  · show 600 * (z - z0) + N ≤ 600 * (MX - z0)
    omega
  · omega
  · omega
theorem V_multiA {tO tI N M : Nat} {ty : FieldType} {dI : Int} (hX : XOK x cc nL own ret (rmA fr lo z0)) (hz : x.1.2.2.2.2.1.heap.size = xb x + z0) (hA : ∀ q, xb x + z0 ≤ q → x.2.1.2.2.2.2.2 q) (hm : z + 1 + N ≤ MX) (hO : 4 ≤ tO) (hO8 : tO < 8) (hI : (tI = 0 ∧ dI = 0 ∧ defaultValue ty = .int 0) ∨ (4 ≤ tI ∧ tI < 8 ∧ dI = -1 ∧ defaultValue ty = .null)) (hN : N ≤ 20) (hM : M ≤ 100) (hNM : N + N * M ≤ 600) (hcb : componentBytes ty ≤ 8)
    (htO : (tysA x.2.2.2.1)[tO]? = some (x.2.2.2.1 tO, .array ty)) (htI : (tysA x.2.2.2.1)[tI]? = some (x.2.2.2.1 tI, ty)) (hk : Cond.classLink own idx ("[" ++ (FieldType.array ty).toString) ∈ lw_all) (hov : Cond.arrayOver (.array ty) ∈ lw_tbl) (har : Cond.arrayClass ty ∈ lw_all) (hRA : ∀ (U : State) (c : ClassId), va_RA U c ty → U.vm.findClass ("[" ++ ty.toString) = some c) (hnmI : "[" ++ ty.toString = (FieldType.array ty).toString) (hdf : fits ty (defaultValue ty) = true) (hdd : (defaultValue ty).isDefault = true) (d : decode cc pc = .ok (.multianewarray idx 2, 4))
    (k : V x nL (kuM K z N (10000 * (tO + 1) + N) (10000 * (tI + 1) + M)) (z + 1 + N - z0) (600 * (z + 1 + N - z0)) (z + 1 + N) (newM z N dI g) (pc + 4) L (.ref (xb x + z) :: st)) : V x nL K (z - z0) (600 * (z - z0)) z g pc L (vI M :: vI N :: st) := by
  refine V_le hz fun h0 => ?_
  refine V_multi hX hO hO8 hI (by omega) (by omega) hcb htO htI hk hov har hRA hnmI (fun q hq => hA q (by omega)) hdf hdd ⟨?_, ?_⟩ d (V_widen ?_ ?_ k)
  · show z - z0 + (1 + N) ≤ MX - z0
    omega
  · show 600 * (z - z0) + (N + N * M) ≤ 600 * (MX - z0)
    omega
  · omega
  · omega
/-- a call of a nest mate's private constructor -/
theorem V_callINA {wf : Bool} {β : Type} {v : β → (Nat → Option Value) × S3} {a : β} {host : String} (hX : XOK x cc nL own ret (rmA fr' lo' z0)) (hz : x.1.2.2.2.2.1.heap.size = xb x + z0) (hA : ∀ q, xb x + z0 ≤ q → x.2.1.2.2.2.2.2 q) (hm : z ≤ MX) (hM : ConA wf z y bytes maxL none fr lo K as g v (.inr a)) (hl : Cond.methodLinkNest own idx y host ∈ lw_tbl) (hinst : Cond.instanceMethod y ∈ lw_all) (hini : Cond.initialized y.cls ∈ lw_all) (hcode : Cond.code y bytes maxL none ∈ lw_all)
    (hd : y.name = "<init>" ∧ y.cls ≠ "java/lang/invoke/MethodHandle" ∧ y.cls ≠ "java/lang/invoke/VarHandle" ∧ (parseMethodDescriptor y.desc).map (fun d => d.parameters.length) = some n) (hR : fr + 1 ≤ fr' ∧ 8 + (maxL + 11) + lo ≤ lo')
    (ha : as (xb x) = .ref (xb x + o) :: As) (hn : As.length = n) (hc : (rest.map fun v => v.category).sum ≤ 8) (d : decode cc pc = .ok (.invokespecial idx, 3))
    (h0 : s0 = As.reverse ++ .ref (xb x + o) :: rest) (h1 : ((v a).1 (xb x)).toList ++ rest = s1)
    (k : KS wf K z (v a).2.1 (v a).2.2.1 → V x nL (v a).2.1 ((v a).2.2.1 - z0) (600 * ((v a).2.2.1 - z0)) (v a).2.2.1 (v a).2.2.2 (pc + 3) L s1) : V x nL K (z - z0) (600 * (z - z0)) z g pc L s0 := by
  have hnest := nestM hX hl
  subst h0 h1
  refine V_le hz fun hle => ?_
  obtain ⟨hx, hb, hml, hown, hts, hr, hlk, hKK, hrm, hSF, hAb, hfl⟩ := hX
  intro H locs ls hS hl'
  have hAA : ∀ q, AKN (xb x) K z q → x.2.1.2.2.2.2.2 q := fun q hq => by
    rcases hq with ⟨o', e, h⟩ | h
    · rw [e]; exact hS.2.1 o' h
    · exact hA q (by omega)
  intro T0 hT X0
  rcases vx_runIN (As := As) (rest := rest) ⟨hx, hb, hml, hown, hts⟩ (hM x.1.2.1 x.2.2.1 x.2.2.2.1 (xb x) hfl) ⟨va_cnB n hts (lw_meth hcode) rfl rfl rfl hnest (hts _ hini) hd.2 (by rw [hrm]; exact hR), hd.1, hts _ hinst⟩ ⟨WU.blind, fun U hU hW => ⟨by rw [ha], ⟨by rw [hU]; exact hS.1, va_K.moved hW.alike hKK, by rw [hU]; exact hS.2.2.1⟩, by rw [hU]; exact hSF.on hW hAb hS.2.2.2⟩⟩ rfl hn hl'.1 rfl (lv_room hc) d (by rw [hrm]; exact ⟨by show z - z0 + (MX - z) ≤ MX - z0; omega, by show 600 * (z - z0) + 600 * (MX - z) ≤ 600 * (MX - z0); omega⟩) T0 hT X0 with ⟨v', st₀, t, T', L', h0, X', hL, e1, e2, ⟨⟨hv, hW, hF⟩, hKS⟩, st⟩ | ⟨q, st₀, t, T', L', E, ce, h0, X', hL, e1, e2, hq, hce, hcv, hcl, st⟩
  · cases hv
    obtain ⟨k1, k2, k3⟩ := vx_keep h0 e1 hS.2.2.2 (fun q _ hq => hAA q hq) hAA hL hF
    have hsz : T'.heap.size = xb x + (v a).2.2.1 := by rw [e1]; exact hW.2.2
    have hsz0 : H.size = xb x + z := hS.2.2.1
    obtain ⟨t2, a1, b1⟩ := k hKS T'.heap (locs ++ L') ls ⟨by rw [e1]; exact hW.1, fun o' ho' => by
        by_cases hlt : o' < z
        · exact hS.2.1 o' (by rw [hKS.2.2.2.1 o' hlt] at ho'; exact ho')
        · exact hA _ (by omega), hsz, k3⟩ hl' T' rfl (stand_widen X' (by show z - z0 + ((v a).2.2.1 - z) ≤ (v a).2.2.1 - z0; omega) (by show 600 * (z - z0) + 600 * ((v a).2.2.1 - z) ≤ 600 * ((v a).2.2.1 - z0); omega))
    exact ⟨t2, st t2 a1, b1⟩
  · exact hq.elim
end ENGAF
/-- what a maker's body knows -/
theorem XRA.hA {β : Type} {hh : List (Nat × Nat × Nat × Nat)} {wf : Bool} {x : CT} {cc : ByteArray} {nL : Nat} {own : String} {ret : Option FieldType} {fr lo : Nat} {K : Nat → Nat} {sz : Nat} {v : β → (Nat → Option Value) × S3} {r : (Nat × S3) ⊕ β} (h : XRA hh wf x cc nL own ret fr lo K sz v r) : ∀ q, xb x + sz ≤ q → x.2.1.2.2.2.2.2 q := fun q hq => by rw [h.2.2.1]; exact Or.inr hq
