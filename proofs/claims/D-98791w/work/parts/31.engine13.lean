/-! ENGINE 13: handlers; calls told by their runs -/
set_option maxRecDepth 100000
theorem pred_eq {q b s : Nat} (h : q + 1 = b + s) (h2 : 350 ≤ s) : q = b + (s - 1) := by omega
section ENGH1
variable {x : CT} {cc bytes : ByteArray} {nL maxL : Nat} {own C : String} {ret ret' : Option FieldType} {rm : Room} {K K' K0 : Nat → Nat} {ce sl sz z z0 : Nat} {g g' : GS} {pc : Nat} {L : List (Nat × Value)} {st rest As s0 s1 : List Value} {y : MethodName} {fr lo fr' lo' o idx n e : Nat} {as : Nat → List Value} {β γ : Type} {v : β → (Nat → Option Value) × S3} {w : γ → (Nat → Option Value) × S3} {hh hy : List (Nat × Nat × Nat × Nat)} {wf : Bool}
/-- a walk of the body is a contract: a method with handlers -/
theorem ConAW.of {r : (Nat × S3) ⊕ β} (own : String) (hy : plainName y.cls = true) (hown : y.cls = own) (hlen : ∀ b, (lg_sl (as b)).length ≤ nL) (h : ∀ x : CT, XRA hh wf x cc nL own ret fr lo K sz v r → x.2.1.2.2.1.name = y.name → V x nL K (sz - sz) (600 * (sz - sz)) sz g 0 (lv_args 0 (as (xb x))) []) : ConAW hh wf sz y cc nL ret fr lo K as g v r := by
  intro l D dA b hfl
  refine vx_ofWH (cc := cc) (maxL := nL) (ret := ret) (hh := hh) hy rfl ?_
  intro p e s m args below meth c s₁ B hml hv
  obtain ⟨rfl, ⟨hWd, hK, hsz⟩, hSF⟩ := hv
  have hts := atoms_spec (ws := wsW_ y cc nL ret hh) B.pre
  have hTB := vx_table (x := y) B (hts _ List.mem_cons_self)
  have hX : XRA hh wf ((p, l, e, _, s, m), ((as b).toArray, below, meth, c, vx_MQ below (QA wf K sz D dA b v (AKN b K sz) r) (XA_ wf K sz D dA b (AKN b K sz) r) (as b).toArray s (szA v r - sz) (600 * (szA v r - sz)) (AKN b K sz), AKN b K sz), (D, dA, b)) cc nL own ret fr lo K sz v r := ⟨⟨B.exec, B.bytes, hml, by rw [← hown]; exact findClass_of_methodNamed B.named, fun w h => hts w (List.mem_cons_of_mem _ h), B.returns, B.notSynchronized, hK, rfl, hSF, AKN_le, hfl⟩, rfl, rfl, hsz, hTB⟩
  have h2 := h _ hX (name_of_methodNamed B.named B.method).1 s.heap [] _ ⟨hWd, fun o ho => Or.inl ⟨o, rfl, ho⟩, hsz, va_S.rf⟩ (lv_entry (as b) (n := nL) (hlen b))
  rw [lg_entry_eq]
  have e0 : sz - sz = 0 := Nat.sub_self sz
  rw [e0] at h2
  exact h2
/-- what a call comes to -/
def RunA (wf : Bool) (x : CT) (nL : Nat) (K : Nat → Nat) (z0 z : Nat) (g : GS) (pc : Nat) (L : List (Nat × Value)) (s0 rest : List Value) (v : β → (Nat → Option Value) × S3) (r : (Nat × S3) ⊕ β) : Prop :=
  ∀ (H : Heap) (locs : List Loc) (ls : Array Slot), z0 ≤ z → WS x K z g H locs → lv_has ls nL L → ∃ ar : Array Value, vx_Run x.1.1 x.1.2.1 x.1.2.2.1 x.1.2.2.2.1 x.1.2.2.2.2.1 x.1.2.2.2.2.2 x.2.1.1 x.2.1.2.1 x.2.1.2.2.1 x.2.1.2.2.2.1 H locs (z - z0) (600 * (z - z0)) (szA v r - z) (600 * (szA v r - z)) (F0 x.1.2.2.2.2.2 pc ls s0) rest (QA wf K z x.2.2.1 x.2.2.2.1 (xb x) v (AKN (xb x) K z) r ar) (XA_ wf K z x.2.2.1 x.2.2.2.1 (xb x) (AKN (xb x) K z) r) (AKN (xb x) K z)
theorem RunA.back {a : β} (hR : RunA wf x nL K z0 z g pc L s0 rest v (.inr a)) (hX : XOK x cc nL own ret rm) (hz : x.1.2.2.2.2.1.heap.size = xb x + z0) (hA : ∀ q, xb x + z0 ≤ q → x.2.1.2.2.2.2.2 q) (h1 : ((v a).1 (xb x)).toList ++ rest = s1)
    (k : KS wf K z (v a).2.1 (v a).2.2.1 → V x nL (v a).2.1 ((v a).2.2.1 - z0) (600 * ((v a).2.2.1 - z0)) (v a).2.2.1 (v a).2.2.2 (pc + 3) L s1) : V x nL K (z - z0) (600 * (z - z0)) z g pc L s0 := by
  subst h1
  refine V_le hz fun hle => ?_
  intro H locs ls hS hl'
  have hAA : ∀ q, AKN (xb x) K z q → x.2.1.2.2.2.2.2 q := fun q hq => by
    rcases hq with ⟨o', e, h⟩ | h
    · rw [e]; exact hS.2.1 o' h
    · exact hA q (by omega)
  obtain ⟨ar, hrun⟩ := hR H locs ls hle hS hl'
  intro T0 hT X0
  rcases hrun T0 hT X0 with ⟨v', st₀, t, T', L', h0, X', hL, e1, e2, ⟨⟨hv, hW, hF⟩, hKS⟩, st⟩ | ⟨q, st₀, t, T', L', E, ce, h0, X', hL, e1, e2, hq, hce, hcv, hcl, st⟩
  · cases hv
    obtain ⟨k1, k2, k3⟩ := vx_keep h0 e1 hS.2.2.2 (fun q _ hq => hAA q hq) hAA hL hF
    have hsz : T'.heap.size = xb x + (v a).2.2.1 := by rw [e1]; exact hW.2.2
    have hsz0 : H.size = xb x + z := hS.2.2.1
    obtain ⟨t2, a1, b1⟩ := k hKS T'.heap (locs ++ L') ls ⟨by rw [e1]; exact hW.1, fun o' ho' => by
        by_cases hlt : o' < z
        · exact hS.2.1 o' (by rw [hKS.2.2.2.1 o' hlt] at ho'; exact ho')
        · exact hA _ (by omega), hsz, k3⟩ hl' T' rfl (stand_widen X' (by show z - z0 + ((v a).2.2.1 - z) ≤ (v a).2.2.1 - z0; omega) (by show 600 * (z - z0) + 600 * ((v a).2.2.1 - z) ≤ 600 * ((v a).2.2.1 - z0); omega))
    exact ⟨t2, st t2 a1, b1⟩
  · exact hq.elim
/-- the classes of what is thrown are no others -/
def NC (E T : String) (s : State) : Prop := va_Nc E T s
theorem RunA.catch {e : Nat} {s' : S3} {name : String} (hR : RunA true x nL K z0 z g pc L s0 rest v (.inl (e, s'))) (hX : XOK x cc nL own ret rm) (hz : x.1.2.2.2.2.1.heap.size = xb x + z0) (hA : ∀ q, xb x + z0 ≤ q → x.2.1.2.2.2.2.2 q) (hTB : x.2.1.2.2.2.1.exceptionTable.toList = tableOf hh) (hp : List (Nat × Nat × Nat × Nat)) (row : Nat × Nat × Nat × Nat) (hs : List (Nat × Nat × Nat × Nat)) (hsp : hh = hp ++ row :: hs)
    (hpass : ∀ q ∈ tableOf hp, covers q pc = false ∨ (q.catchType ≠ 0 ∧ ∃ nm : String, Cond.classLink own q.catchType nm ∈ lw_all ∧ va_Nc (exn e) nm x.1.2.2.2.2.1)) (hcov : covers ⟨row.1, row.2.1, row.2.2.1, row.2.2.2⟩ pc = true) (h0 : row.2.2.2 ≠ 0) (hl : Cond.classLink own row.2.2.2 name ∈ lw_all) (hc : Cond.castable (exn e) name ∈ lw_tbl)
    (k : KS true K z s'.1 s'.2.1 → V x nL s'.1 (s'.2.1 - z0) (600 * (s'.2.1 - z0)) s'.2.1 s'.2.2 row.2.2.1 L [.ref (xb x + (s'.2.1 - 1))]) : V x nL K (z - z0) (600 * (z - z0)) z g pc L s0 := by
  subst hsp
  refine V_le hz fun hle => ?_
  intro H locs ls hS hl'
  have hAA : ∀ q, AKN (xb x) K z q → x.2.1.2.2.2.2.2 q := fun q hq => by
    rcases hq with ⟨o', e, h⟩ | h
    · rw [e]; exact hS.2.1 o' h
    · exact hA q (by omega)
  obtain ⟨ar, hrun⟩ := hR H locs ls hle hS hl'
  obtain ⟨hx, hb, hml, hown, hts, hr, hlk, hKK, hrm, hSF, hAb, hfl⟩ := hX
  intro T0 hT X0
  rcases hrun T0 hT X0 with ⟨v', st₀, t, T', L', h0', X', hL, e1, e2, hq, st⟩ | ⟨q, st₀, t, T', L', E, ce, h0', X', hL, e1, e2, ⟨hE, hqq, hW, hF, hKS⟩, hce, hcv, hcl, st⟩
  · exact hq.elim
  · obtain ⟨k1, k2, k3⟩ := vx_keep h0' e1 hS.2.2.2 (fun q _ hq => hAA q hq) hAA hL hF
    have hsz : T'.heap.size = xb x + s'.2.1 := by rw [e1]; exact hW.2.2
    have hsz0 : H.size = xb x + z := hS.2.2.1
    have h350 : 350 ≤ s'.2.1 := (hKS.2.2.2.2 rfl).2.1
    have hqe : q = xb x + (s'.2.1 - 1) := pred_eq hqq h350
    have hE : E = exn e := hE
    subst hE
    have hsplit : x.2.1.2.2.2.1.exceptionTable.toList = tableOf hp ++ (⟨row.1, row.2.1, row.2.2.1, row.2.2.2⟩ : ExceptionTableEntry) :: tableOf hs := by rw [hTB]; simp [tableOf]
    obtain ⟨t2, a1, b1⟩ := vx_catch (pc := pc) (ls := ls) (rest := rest) hown (tableOf hp) _ (tableOf hs) hsplit (fun z hz => (hpass z hz).imp id (fun h => ⟨h.1, h.2.imp fun nm h2 => ⟨hts _ h2.1, h2.2⟩⟩)) hcov h0 (hts _ hl) (cast_at hSF hc) (by rw [e1]; exact hce) hcv hcl (kk := by
      rw [hqe]
      exact k hKS T'.heap (locs ++ L') ls ⟨by rw [e1]; exact hW.1, fun o' ho' => by
        by_cases hlt : o' < z
        · exact hS.2.1 o' (by rw [hKS.2.2.2.1 o' hlt] at ho'; exact ho')
        · exact hA _ (by omega), hsz, k3⟩ hl') T' rfl (stand_widen X' (by show z - z0 + (s'.2.1 - z) ≤ s'.2.1 - z0; omega) (by show 600 * (z - z0) + 600 * (s'.2.1 - z) ≤ 600 * (s'.2.1 - z0); omega))
    exact ⟨t2, st.trans a1, b1⟩
theorem RunA.out {e : Nat} {s' : S3} (hR : RunA wf x nL K z0 z g pc L s0 rest v (.inl (e, s'))) (hX : XRA hh wf x cc nL own ret fr' lo' K0 z0 w (.inl (e, s'))) (hout : ∀ q ∈ tableOf hh, covers q pc = false) (hK0 : KS wf K0 z0 K z) : V x nL K (z - z0) (600 * (z - z0)) z g pc L s0 := by
  obtain ⟨hX, hQ, hA, hz, hTB⟩ := hX
  refine V_le hz fun hle => ?_
  intro H locs ls hS hl'
  obtain ⟨ar, hrun⟩ := hR H locs ls hle hS hl'
  obtain ⟨hx, hb, hml, hown, hts, hr, hlk, hKK, hrm, hSF, hAb, hfl⟩ := hX
  rw [WS, hA] at hS
  rw [hQ]
  have hAA : ∀ q, AKN (xb x) K z q → AKN (xb x) K0 z0 q := fun q hq => by
    rcases hq with ⟨o', e, h⟩ | h
    · rw [e]; exact hS.2.1 o' h
    · exact Or.inr (by omega)
  intro T0 hT X0
  rcases hrun T0 hT X0 with ⟨v', st₀, t, T', L', h0', X', hL, e1, e2, hq, st⟩ | ⟨q, st₀, t, T', L', E, ce, h0', X', hL, e1, e2, ⟨hE, hqq, hW, hF, hKS⟩, hce, hcv, hcl, st⟩
  · exact hq.elim
  · obtain ⟨k1, k2, k3⟩ := vx_keep h0' e1 hS.2.2.2 (fun q _ hq => hAA q hq) hAA hL hF
    have hsz : T'.heap.size = xb x + s'.2.1 := by rw [e1]; exact hW.2.2
    have hsz0 : H.size = xb x + z := hS.2.2.1
    have hcc : z - z0 + (szA v (.inl (e, s')) - z) ≤ szA w (.inl (e, s')) - z0 := by
      show z - z0 + (s'.2.1 - z) ≤ s'.2.1 - z0
      omega
    obtain ⟨t2, a1, b1⟩ := vx_out (Qc := QA wf K0 z0 x.2.2.1 x.2.2.2.1 (xb x) w (AKN (xb x) K0 z0) (.inl (e, s'))) (XC := XA_ wf K0 z0 x.2.2.1 x.2.2.2.1 (xb x) (AKN (xb x) K0 z0) (.inl (e, s'))) (mc := szA w (.inl (e, s')) - z0) (ms := 600 * (szA w (.inl (e, s')) - z0)) (pc := pc) (ls := ls) (rest := rest) (fun q hq => hout q (by rw [← hTB]; exact hq)) hlk (by rw [e1]; exact hce) hcv hcl (fun t' ht hvm => ⟨hE, hqq, ⟨by rw [ht, e1]; exact hW.1, va_K.moved hvm hKK, by rw [ht, e1]; exact hW.2.2⟩, k3.F ht, hK0.tr hKS⟩) k3.2.2 hcc (by omega) T' rfl X'
    exact ⟨t2, st.trans a1, b1⟩
/-- a call by a name -/
theorem runV_A {r : (Nat × S3) ⊕ β} {ci N : Nat} {T : u_T} (hX : XOK x cc nL own ret (rmA fr' lo' z0)) (hm : z ≤ MX) (hM : ConA wf z y bytes maxL ret' fr lo K as g v r) (hg : GoodIn lw_all (wsV own idx C y (ws_ y bytes maxL ret')))
    (hd : y.cls = C ∧ y.cls ≠ "java/lang/invoke/MethodHandle" ∧ y.cls ≠ "java/lang/invoke/VarHandle" ∧ (parseMethodDescriptor y.desc).map (fun d => d.parameters.length) = some n) (hR : fr + 1 ≤ fr' ∧ 8 + (maxL + 11) + lo ≤ lo')
    (hcl : clT[ci]? = some (C, T, N)) (hci : ci < 100) (hK : K o = ci + 1) (ha : as (xb x) = .ref (xb x + o) :: As) (hn : As.length = n) (hc : (rest.map fun v => v.category).sum ≤ 8) (d : decode cc pc = .ok (.invokevirtual idx, 3))
    (h0 : s0 = As.reverse ++ .ref (xb x + o) :: rest) : RunA wf x nL K z0 z g pc L s0 rest v r := by
  subst h0
  obtain ⟨hx, hb, hml, hown, hts, hr, hlk, hKK, hrm, hSF, hAb, hfl⟩ := hX
  intro H locs ls hle hS hl'
  obtain ⟨r', h1, cell, q1, q2, q3, q4⟩ := (hS.1 o).1 ci hci hK
  cases hcl.symm.trans h1
  obtain ⟨hS2, hfc, kC, hkC, hkind⟩ := hKK.1 ci _ hcl
  exact ⟨_, vx_runV (As := As) (rest := rest) ⟨hx, hb, hml, hown, hts⟩ (hM x.1.2.1 x.2.2.1 x.2.2.2.1 (xb x) hfl) (cwV n hts hg rfl rfl rfl hd (by rw [hrm]; exact hR)) ⟨WU.blind, ⟨cell, q1, by rw [q3]; rfl, by rw [q2]; exact hfc⟩, fun U hU hW => ⟨by rw [ha], ⟨by rw [hU]; exact hS.1, va_K.moved hW.alike hKK, by rw [hU]; exact hS.2.2.1⟩, by rw [hU]; exact hSF.on hW hAb hS.2.2.2⟩⟩ rfl hn hl'.1 rfl (lv_room hc) d (by rw [hrm]; exact ⟨by show z - z0 + (MX - z) ≤ MX - z0; omega, by show 600 * (z - z0) + 600 * (MX - z) ≤ 600 * (MX - z0); omega⟩)⟩
theorem runV_W {r : (Nat × S3) ⊕ β} {ci N : Nat} {T : u_T} (hX : XOK x cc nL own ret (rmA fr' lo' z0)) (hm : z ≤ MX) (hM : ConAW hy wf z y bytes maxL ret' fr lo K as g v r) (hg : GoodIn lw_all (wsV own idx C y (wsW_ y bytes maxL ret' hy)))
    (hd : y.cls = C ∧ y.cls ≠ "java/lang/invoke/MethodHandle" ∧ y.cls ≠ "java/lang/invoke/VarHandle" ∧ (parseMethodDescriptor y.desc).map (fun d => d.parameters.length) = some n) (hR : fr + 1 ≤ fr' ∧ 8 + (maxL + 11) + lo ≤ lo')
    (hcl : clT[ci]? = some (C, T, N)) (hci : ci < 100) (hK : K o = ci + 1) (ha : as (xb x) = .ref (xb x + o) :: As) (hn : As.length = n) (hc : (rest.map fun v => v.category).sum ≤ 8) (d : decode cc pc = .ok (.invokevirtual idx, 3))
    (h0 : s0 = As.reverse ++ .ref (xb x + o) :: rest) : RunA wf x nL K z0 z g pc L s0 rest v r := by
  subst h0
  obtain ⟨hx, hb, hml, hown, hts, hr, hlk, hKK, hrm, hSF, hAb, hfl⟩ := hX
  intro H locs ls hle hS hl'
  obtain ⟨r', h1, cell, q1, q2, q3, q4⟩ := (hS.1 o).1 ci hci hK
  cases hcl.symm.trans h1
  obtain ⟨hS2, hfc, kC, hkC, hkind⟩ := hKK.1 ci _ hcl
  exact ⟨_, vx_runVX (As := As) (rest := rest) ⟨hx, hb, hml, hown, hts⟩ (hM x.1.2.1 x.2.2.1 x.2.2.2.1 (xb x) hfl) (vx_cwVW n hts hg rfl rfl rfl hd (by rw [hrm]; exact hR)) ⟨WU.blind, ⟨cell, q1, by rw [q3]; rfl, by rw [q2]; exact hfc⟩, fun U hU hW => ⟨by rw [ha], ⟨by rw [hU]; exact hS.1, va_K.moved hW.alike hKK, by rw [hU]; exact hS.2.2.1⟩, by rw [hU]; exact hSF.on hW hAb hS.2.2.2⟩⟩ rfl hn hl'.1 rfl (lv_room hc) d (by rw [hrm]; exact ⟨by show z - z0 + (MX - z) ≤ MX - z0; omega, by show 600 * (z - z0) + 600 * (MX - z) ≤ 600 * (MX - z0); omega⟩)⟩
/-- a throw of what was made in this method, caught in it -/
theorem V_throwC {o : Nat} (hX : XOK x cc nL own ret rm) (hTB : x.2.1.2.2.2.1.exceptionTable.toList = tableOf hh) (hp : List (Nat × Nat × Nat × Nat)) (row : Nat × Nat × Nat × Nat) (hs : List (Nat × Nat × Nat × Nat)) (hsp : hh = hp ++ row :: hs) (hpass : ∀ q ∈ tableOf hp, covers q pc = false) (hcov : covers ⟨row.1, row.2.1, row.2.2.1, row.2.2.2⟩ pc = true) (h0 : row.2.2.2 ≠ 0) (hl : Cond.classLink own row.2.2.2 RX13 ∈ lw_all) (hc : Cond.castable RX13 RX13 ∈ lw_tbl) (hK : K o = 13) (d : decode cc pc = .ok (.athrow, 1))
    (k : V x nL K ce sl sz g row.2.2.1 L [.ref (xb x + o)]) : V x nL K ce sl sz g pc L (.ref (xb x + o) :: rest) := by
  subst hsp
  obtain ⟨hx, hb, hml, hown, hts, hr, hlk, hKK, hrm, hSF, hAb, hfl⟩ := hX
  intro H locs ls hS hl'
  obtain ⟨r, h1, cell, q1, q2, q3, q4⟩ := (hS.1 o).1 12 (by decide) hK
  cases (show clT[12]? = some (RX13, TX13, 8) from rfl).symm.trans h1
  have hfc := (hKK.1 12 _ rfl).2.1
  have hsplit : x.2.1.2.2.2.1.exceptionTable.toList = tableOf hp ++ (⟨row.1, row.2.1, row.2.2.1, row.2.2.2⟩ : ExceptionTableEntry) :: tableOf hs := by rw [hTB]; simp [tableOf]
  refine vx_athrow hx hb d ?_
  exact vx_catch (E := RX13) hown (tableOf hp) _ (tableOf hs) hsplit (fun z hz => Or.inl (hpass z hz)) hcov h0 (hts _ hl) (cast_at hSF hc) q1 q3 (by rw [q2]; exact hfc) (k H locs ls hS hl')
end ENGH1
def ckK {α : Type} (K : Nat → Nat) (o kd : Nat) (x : Option α) : Option α := if K o = kd then x else none
theorem ckK_some {α : Type} {K : Nat → Nat} {o kd : Nat} {x : Option α} {r : α} (h : ckK K o kd x = some r) : K o = kd ∧ x = some r := by
  unfold ckK at h
  split at h
  · exact ⟨by assumption, h⟩
  · cases h
theorem ckK_eq {α : Type} {K : Nat → Nat} {o kd : Nat} {x : Option α} (h : K o = kd) : ckK K o kd x = x := if_pos h
def chK {α : Type} (a : Int) (x : Option α) : Option α := if 0 ≤ a ∧ a < 65536 then x else none
theorem chK_some {α : Type} {a : Int} {x : Option α} {r : α} (h : chK a x = some r) : (0 ≤ a ∧ a < 65536) ∧ x = some r := by
  unfold chK at h
  split at h
  · exact ⟨by assumption, h⟩
  · cases h
theorem fits_c {a : Int} (h0 : 0 ≤ a) (h1 : a < 65536) : fits .char (vI a) = true := by
  show (decide (0 ≤ Int32.ofInt a) && decide (Int32.ofInt a ≤ 65535)) = true
  have hw : w32 a = a := w32_of (by omega) (by omega)
  have h65 : w32 65535 = 65535 := w32_of (by omega) (by omega)
  rw [Bool.and_eq_true, decide_eq_true_iff, decide_eq_true_iff]
  exact ⟨ge0_iff32.mpr (by rw [hw]; exact h0), (le_iff32 (a := a) (b := 65535)).mpr (by rw [hw, h65]; omega)⟩
