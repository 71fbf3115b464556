/-! ENGINE 11: methods that make cells -/
set_option maxRecDepth 100000
def MX : Nat := 12000
abbrev S3 : Type := (Nat → Nat) × Nat × GS
abbrev rmA (fr lo sz : Nat) : Room := { frames := fr, cells := MX - sz, slots := 600 * (MX - sz), locals := lo }
def lim {α : Type} (z : Nat) (x : Option α) : Option α := if z ≤ MX then x else none
theorem lim_some {α : Type} {z : Nat} {x : Option α} {r : α} (h : lim z x = some r) : z ≤ MX ∧ x = some r := by
  unfold lim at h
  split at h
  · exact ⟨by assumption, h⟩
  · cases h
/-- the kinds after: what was there keeps its kind; nothing is known beyond the end; at run time all is well formed -/
def KS (wf : Bool) (K0 : Nat → Nat) (z0 : Nat) (K : Nat → Nat) (z : Nat) : Prop := z0 ≤ z ∧ z ≤ MX ∧ (∀ o, z ≤ o → K o = 0) ∧ (∀ o, o < z0 → K o = K0 o) ∧ (wf = true → WFS K z)
theorem KS.tr {wf : Bool} {K0 K K' : Nat → Nat} {z0 z z' : Nat} (h : KS wf K0 z0 K z) (h' : KS wf K z K' z') : KS wf K0 z0 K' z' := ⟨Nat.le_trans h.1 h'.1, h'.2.1, h'.2.2.1, fun o ho => (h'.2.2.2.1 o (Nat.lt_of_lt_of_le ho h.1)).trans (h.2.2.2.1 o ho), h'.2.2.2.2⟩
theorem KS.rf {K : Nat → Nat} {z : Nat} (h : WFS K z) (hz : z ≤ MX) : KS true K z K z := ⟨Nat.le_refl _, hz, h.2.2, fun _ _ => rfl, fun _ => h⟩
theorem KS.keep {wf : Bool} {K0 K : Nat → Nat} {z0 z o v : Nat} (h : KS wf K0 z0 K z) (h0 : ∀ o, z0 ≤ o → K0 o = 0) (ho : K0 o = v) (hv : v ≠ 0 := by decide) : K o = v := by
  by_cases e : o < z0
  · rw [h.2.2.2.1 o e]; exact ho
  · have := h0 o (by omega)
    omega
theorem KS.up {K0 K : Nat → Nat} {z0 z kd : Nat} (h : KS true K0 z0 K z) (hm : z + 1 ≤ MX) (hb : blkK (kd - 1) = []) : KS true K0 z0 (ku K z kd) (z + 1) := ⟨Nat.le_succ_of_le h.1, hm, fun o ho => by rw [ku_ne (by omega)]; exact h.2.2.1 o (by omega), fun o ho => by rw [ku_ne (by have := h.1; omega)]; exact h.2.2.2.1 o ho, fun _ => (h.2.2.2.2 rfl).up hb⟩
theorem KS.no {K0 K : Nat → Nat} {z0 z : Nat} {wf : Bool} (h : KS wf K0 z0 K z) : ∀ o, K o ≠ 0 → o < z := fun o ho => Nat.not_le.mp fun hz => ho (h.2.2.1 o hz)
def szA {β : Type} (v : β → (Nat → Option Value) × S3) : (Nat × S3) ⊕ β → Nat
  | .inl e => e.2.2.1
  | .inr a => (v a).2.2.1
def QA {β : Type} (wf : Bool) (K0 : Nat → Nat) (z0 : Nat) (D : va_G) (dA : Nat → ClassId) (b : Nat) (v : β → (Nat → Option Value) × S3) (A : Nat → Prop) : (Nat × S3) ⊕ β → Array Value → State → Outcome → State → Prop
  | .inl _ => fun _ _ _ _ => False
  | .inr a => fun ar st oc t => QR ((v a).1 b) (WU D dA b (v a).2.1 (v a).2.2.1 (v a).2.2.2) A ar st oc t ∧ KS wf K0 z0 (v a).2.1 (v a).2.2.1
def XA_ {β : Type} (wf : Bool) (K0 : Nat → Nat) (z0 : Nat) (D : va_G) (dA : Nat → ClassId) (b : Nat) (A : Nat → Prop) : (Nat × S3) ⊕ β → String → Addr → State → State → Prop
  | .inl e => fun E q st t => E = exn e.1 ∧ q + 1 = b + e.2.2.1 ∧ WU D dA b e.2.1 e.2.2.1 e.2.2.2 t ∧ va_F A st t ∧ KS wf K0 z0 e.2.1 e.2.2.1
  | .inr _ => fun _ _ _ _ => False
/-- the contract of a method that may make cells and may throw -/
def ConA {β : Type} (wf : Bool) (sz : Nat) (y : MethodName) (cc : ByteArray) (nL : Nat) (ret : Option FieldType) (fr lo : Nat) (K : Nat → Nat) (as : Nat → List Value) (g : GS) (v : β → (Nat → Option Value) × S3) (r : (Nat × S3) ⊕ β) : Prop :=
  ∀ (l : Launch) (D : va_G) (dA : Nat → ClassId) (b : Nat), l.flags = flags0 → vx_Met l y (ws_ y cc nL ret) (rmA fr lo sz) (va_Pc (as b) (WS0 D dA b K sz g)) (QA wf K sz D dA b v (AKN b K sz) r) (XA_ wf K sz D dA b (AKN b K sz) r) (szA v r - sz) (600 * (szA v r - sz)) (AKN b K sz)
/-- the same, of a method with handlers -/
def ConAW {β : Type} (hh : List (Nat × Nat × Nat × Nat)) (wf : Bool) (sz : Nat) (y : MethodName) (cc : ByteArray) (nL : Nat) (ret : Option FieldType) (fr lo : Nat) (K : Nat → Nat) (as : Nat → List Value) (g : GS) (v : β → (Nat → Option Value) × S3) (r : (Nat × S3) ⊕ β) : Prop :=
  ∀ (l : Launch) (D : va_G) (dA : Nat → ClassId) (b : Nat), l.flags = flags0 → vx_Met l y (wsW_ y cc nL ret hh) (rmA fr lo sz) (va_Pc (as b) (WS0 D dA b K sz g)) (QA wf K sz D dA b v (AKN b K sz) r) (XA_ wf K sz D dA b (AKN b K sz) r) (szA v r - sz) (600 * (szA v r - sz)) (AKN b K sz)
def XRA {β : Type} (hh : List (Nat × Nat × Nat × Nat)) (wf : Bool) (x : CT) (cc : ByteArray) (nL : Nat) (own : String) (ret : Option FieldType) (fr lo : Nat) (K : Nat → Nat) (sz : Nat) (v : β → (Nat → Option Value) × S3) (r : (Nat × S3) ⊕ β) : Prop :=
  XOK x cc nL own ret (rmA fr lo sz) ∧ x.2.1.2.2.2.2.1 = vx_MQ x.2.1.2.1 (QA wf K sz x.2.2.1 x.2.2.2.1 (xb x) v (AKN (xb x) K sz) r) (XA_ wf K sz x.2.2.1 x.2.2.2.1 (xb x) (AKN (xb x) K sz) r) x.2.1.1 x.1.2.2.2.2.1 (szA v r - sz) (600 * (szA v r - sz)) (AKN (xb x) K sz) ∧ x.2.1.2.2.2.2.2 = AKN (xb x) K sz ∧ x.1.2.2.2.2.1.heap.size = xb x + sz ∧ x.2.1.2.2.2.1.exceptionTable.toList = tableOf hh
section ENGA
variable {x : CT} {cc bytes : ByteArray} {nL maxL : Nat} {own C : String} {ret ret' : Option FieldType} {rm : Room} {K K' : Nat → Nat} {ce sl sz z z0 : Nat} {g g' : GS} {pc : Nat} {L : List (Nat × Value)} {st rest As s0 s1 : List Value} {y : MethodName} {fr lo fr' lo' o idx n e : Nat} {as : Nat → List Value}
theorem V_widen {ce' sl' : Nat} (h1 : ce ≤ ce') (h2 : sl ≤ sl') (k : V x nL K ce' sl' sz g pc L st) : V x nL K ce sl sz g pc L st := fun H locs ls hS hl T hT X => k H locs ls hS hl T hT (stand_widen X h1 h2)
/-- the cells made so far are z - z0 -/
theorem V_le (hz : x.1.2.2.2.2.1.heap.size = xb x + z0) (k : z0 ≤ z → V x nL K ce sl z g pc L st) : V x nL K ce sl z g pc L st := fun H locs ls hS hl => k (by have h1 := hS.2.2.1; have h2 := hS.2.2.2.1; omega) H locs ls hS hl
theorem V_newA {ci N : Nat} {T : u_T} (hX : XOK x cc nL own ret (rmA fr lo z0)) (hz : x.1.2.2.2.2.1.heap.size = xb x + z0) (hA : ∀ q, xb x + z0 ≤ q → x.2.1.2.2.2.2.2 q) (hm : z + 1 ≤ MX) (hc : clT[ci]? = some (C, T, N)) (hin : ∀ w ∈ u_ws C T N, w ∈ lw_all) (ty0 : Nat → FieldType) (hty : ∀ k, k < N → parseFieldDescriptor (T k).2.2.1 = some (ty0 k)) (hci : ci < 100) (hN : N < 100) (hcl : Cond.classLink own idx C ∈ lw_all) (hinst : Cond.instantiable C N ∈ lw_all) (hini : Cond.initialized C ∈ lw_all)
    (hdef : ∀ j, j < N → (lt_ ci j).1 = 0 ∧ defaultValue (ty0 j) = .int 0 ∨ (3 ≤ (lt_ ci j).1 ∧ defaultValue (ty0 j) = .null)) (d : decode cc pc = .ok (.new idx, 3))
    (k : V x nL (ku K z (ci + 1)) (z + 1 - z0) (600 * (z + 1 - z0)) (z + 1) (newI ci z g) (pc + 3) L (.ref (xb x + z) :: st)) : V x nL K (z - z0) (600 * (z - z0)) z g pc L st := by
  refine V_le hz fun h0 => ?_
  refine V_new hX hc hin ty0 hty hci (by omega) hcl hinst hini hdef (hA _ (by omega)) ⟨?_, ?_⟩ d (V_widen ?_ ?_ k)
  · show z - z0 + 1 ≤ MX - z0
    omega
  · show 600 * (z - z0) + N ≤ 600 * (MX - z0)
    omega
  · omega
  · omega
theorem V_callVA {wf : Bool} {β : Type} {v : β → (Nat → Option Value) × S3} {a : β} {ci N : Nat} {T : u_T} (hX : XOK x cc nL own ret (rmA fr' lo' z0)) (hz : x.1.2.2.2.2.1.heap.size = xb x + z0) (hA : ∀ q, xb x + z0 ≤ q → x.2.1.2.2.2.2.2 q) (hm : z ≤ MX) (hM : ConA wf z y bytes maxL ret' fr lo K as g v (.inr a)) (hg : GoodIn lw_all (wsV own idx C y (ws_ y bytes maxL ret')))
    (hd : y.cls = C ∧ y.cls ≠ "java/lang/invoke/MethodHandle" ∧ y.cls ≠ "java/lang/invoke/VarHandle" ∧ (parseMethodDescriptor y.desc).map (fun d => d.parameters.length) = some n) (hR : fr + 1 ≤ fr' ∧ 8 + (maxL + 11) + lo ≤ lo')
    (hcl : clT[ci]? = some (C, T, N)) (hci : ci < 100) (hK : K o = ci + 1) (ha : as (xb x) = .ref (xb x + o) :: As) (hn : As.length = n) (hc : (rest.map fun v => v.category).sum ≤ 8) (d : decode cc pc = .ok (.invokevirtual idx, 3))
    (h0 : s0 = As.reverse ++ .ref (xb x + o) :: rest) (h1 : ((v a).1 (xb x)).toList ++ rest = s1)
    (k : KS wf K z (v a).2.1 (v a).2.2.1 → V x nL (v a).2.1 ((v a).2.2.1 - z0) (600 * ((v a).2.2.1 - z0)) (v a).2.2.1 (v a).2.2.2 (pc + 3) L s1) : V x nL K (z - z0) (600 * (z - z0)) z g pc L s0 := by
  subst h0 h1
  refine V_le hz fun hle => ?_
  obtain ⟨hx, hb, hml, hown, hts, hr, hlk, hKK, hrm, hSF, hAb, hfl⟩ := hX
  intro H locs ls hS hl'
  obtain ⟨r, h1, cell, q1, q2, q3, q4⟩ := (hS.1 o).1 ci hci hK
  cases hcl.symm.trans h1
  obtain ⟨hS2, hfc, kC, hkC, hkind⟩ := hKK.1 ci _ hcl
  have hAA : ∀ q, AKN (xb x) K z q → x.2.1.2.2.2.2.2 q := fun q hq => by
    rcases hq with ⟨o', e, h⟩ | h
    · rw [e]; exact hS.2.1 o' h
    · exact hA q (by omega)
  intro T0 hT X0
  rcases vx_runV (As := As) (rest := rest) ⟨hx, hb, hml, hown, hts⟩ (hM x.1.2.1 x.2.2.1 x.2.2.2.1 (xb x) hfl) (cwV n hts hg rfl rfl rfl hd (by rw [hrm]; exact hR)) ⟨WU.blind, ⟨cell, q1, by rw [q3]; rfl, by rw [q2]; exact hfc⟩, fun U hU hW => ⟨by rw [ha], ⟨by rw [hU]; exact hS.1, va_K.moved hW.alike hKK, by rw [hU]; exact hS.2.2.1⟩, by rw [hU]; exact hSF.on hW hAb hS.2.2.2⟩⟩ rfl hn hl'.1 rfl (lv_room hc) d (by rw [hrm]; exact ⟨by show z - z0 + (MX - z) ≤ MX - z0; omega, by show 600 * (z - z0) + 600 * (MX - z) ≤ 600 * (MX - z0); omega⟩) T0 hT X0 with ⟨v', st₀, t, T', L', h0, X', hL, e1, e2, ⟨⟨hv, hW, hF⟩, hKS⟩, st⟩ | ⟨q, st₀, t, T', L', E, ce, h0, X', hL, e1, e2, hq, hce, hcv, hcl, st⟩
  · cases hv
    obtain ⟨k1, k2, k3⟩ := vx_keep h0 e1 hS.2.2.2 (fun q _ hq => hAA q hq) hAA hL hF
    have hsz : T'.heap.size = xb x + (v a).2.2.1 := by rw [e1]; exact hW.2.2
    have hsz0 : H.size = xb x + z := hS.2.2.1
    obtain ⟨t2, a1, b1⟩ := k hKS T'.heap (locs ++ L') ls ⟨by rw [e1]; exact hW.1, fun o' ho' => by
        by_cases hlt : o' < z
        · exact hS.2.1 o' (by rw [hKS.2.2.2.1 o' hlt] at ho'; exact ho')
        · exact hA _ (by omega), hsz, k3⟩ hl' T' rfl (stand_widen X' (by show z - z0 + ((v a).2.2.1 - z) ≤ (v a).2.2.1 - z0; omega) (by show 600 * (z - z0) + 600 * ((v a).2.2.1 - z) ≤ 600 * ((v a).2.2.1 - z0); omega))
    exact ⟨t2, st t2 a1, b1⟩
  · exact hq.elim
theorem V_callIA {wf : Bool} {β : Type} {v : β → (Nat → Option Value) × S3} {a : β} (hX : XOK x cc nL own ret (rmA fr' lo' z0)) (hz : x.1.2.2.2.2.1.heap.size = xb x + z0) (hA : ∀ q, xb x + z0 ≤ q → x.2.1.2.2.2.2.2 q) (hm : z ≤ MX) (hM : ConA wf z y bytes maxL none fr lo K as g v (.inr a)) (hl : Cond.methodLink own idx y ∈ lw_all) (hinst : Cond.instanceMethod y ∈ lw_all) (hini : Cond.initialized y.cls ∈ lw_all) (hcode : Cond.code y bytes maxL none ∈ lw_all)
    (hd : y.name = "<init>" ∧ y.cls ≠ "java/lang/invoke/MethodHandle" ∧ y.cls ≠ "java/lang/invoke/VarHandle" ∧ (parseMethodDescriptor y.desc).map (fun d => d.parameters.length) = some n) (hR : fr + 1 ≤ fr' ∧ 8 + (maxL + 11) + lo ≤ lo')
    (ha : as (xb x) = .ref (xb x + o) :: As) (hn : As.length = n) (hc : (rest.map fun v => v.category).sum ≤ 8) (d : decode cc pc = .ok (.invokespecial idx, 3))
    (h0 : s0 = As.reverse ++ .ref (xb x + o) :: rest) (h1 : ((v a).1 (xb x)).toList ++ rest = s1)
    (k : KS wf K z (v a).2.1 (v a).2.2.1 → V x nL (v a).2.1 ((v a).2.2.1 - z0) (600 * ((v a).2.2.1 - z0)) (v a).2.2.1 (v a).2.2.2 (pc + 3) L s1) : V x nL K (z - z0) (600 * (z - z0)) z g pc L s0 := by
  subst h0 h1
  refine V_le hz fun hle => ?_
  obtain ⟨hx, hb, hml, hown, hts, hr, hlk, hKK, hrm, hSF, hAb, hfl⟩ := hX
  intro H locs ls hS hl'
  have hAA : ∀ q, AKN (xb x) K z q → x.2.1.2.2.2.2.2 q := fun q hq => by
    rcases hq with ⟨o', e, h⟩ | h
    · rw [e]; exact hS.2.1 o' h
    · exact hA q (by omega)
  intro T0 hT X0
  rcases vx_runI (As := As) (rest := rest) ⟨hx, hb, hml, hown, hts⟩ (hM x.1.2.1 x.2.2.1 x.2.2.2.1 (xb x) hfl) (cwI n hts (lw_meth hcode) rfl rfl rfl (hts _ hini) (hts _ hl) (hts _ hinst) hd.1 hd.2 (by rw [hrm]; exact hR)) ⟨WU.blind, fun U hU hW => ⟨by rw [ha], ⟨by rw [hU]; exact hS.1, va_K.moved hW.alike hKK, by rw [hU]; exact hS.2.2.1⟩, by rw [hU]; exact hSF.on hW hAb hS.2.2.2⟩⟩ rfl hn hl'.1 rfl (lv_room hc) d (by rw [hrm]; exact ⟨by show z - z0 + (MX - z) ≤ MX - z0; omega, by show 600 * (z - z0) + 600 * (MX - z) ≤ 600 * (MX - z0); omega⟩) T0 hT X0 with ⟨v', st₀, t, T', L', h0, X', hL, e1, e2, ⟨⟨hv, hW, hF⟩, hKS⟩, st⟩ | ⟨q, st₀, t, T', L', E, ce, h0, X', hL, e1, e2, hq, hce, hcv, hcl, st⟩
  · cases hv
    obtain ⟨k1, k2, k3⟩ := vx_keep h0 e1 hS.2.2.2 (fun q _ hq => hAA q hq) hAA hL hF
    have hsz : T'.heap.size = xb x + (v a).2.2.1 := by rw [e1]; exact hW.2.2
    have hsz0 : H.size = xb x + z := hS.2.2.1
    obtain ⟨t2, a1, b1⟩ := k hKS T'.heap (locs ++ L') ls ⟨by rw [e1]; exact hW.1, fun o' ho' => by
        by_cases hlt : o' < z
        · exact hS.2.1 o' (by rw [hKS.2.2.2.1 o' hlt] at ho'; exact ho')
        · exact hA _ (by omega), hsz, k3⟩ hl' T' rfl (stand_widen X' (by show z - z0 + ((v a).2.2.1 - z) ≤ (v a).2.2.1 - z0; omega) (by show 600 * (z - z0) + 600 * ((v a).2.2.1 - z) ≤ 600 * ((v a).2.2.1 - z0); omega))
    exact ⟨t2, st t2 a1, b1⟩
  · exact hq.elim
end ENGA
section ENGB
variable {x : CT} {cc bytes : ByteArray} {nL maxL : Nat} {own C : String} {ret ret' : Option FieldType} {rm : Room} {K K' : Nat → Nat} {ce sl sz z z0 : Nat} {g g' : GS} {pc : Nat} {L : List (Nat × Value)} {st rest As s0 s1 : List Value} {y : MethodName} {fr lo fr' lo' o idx n e : Nat} {as : Nat → List Value} {β : Type} {v : β → (Nat → Option Value) × S3} {c : β}
theorem V_endA_i {hh : List (Nat × Nat × Nat × Nat)} {a : Int} {wf : Bool} (hX : XRA hh wf x cc nL own (some .int) fr lo K sz v (.inr c)) (hv : v c = (fun _ => some (vI a), K', z, g)) (hKS : KS wf K sz K' z) (d : decode cc pc = .ok (.ireturn, 1)) : V x nL K' (z - sz) (600 * (z - sz)) z g pc L [vI a] := by
  obtain ⟨⟨hx, hb, hml, hown, hts, hr, hlk, hKK, hrm, -⟩, hQ, hA, -⟩ := hX
  intro H locs ls hS hl'
  rw [WS, hA] at hS
  rw [hQ]
  simp only [szA, QA, hv]
  refine vx_ret ?_
  exact W.iret hx hb hr (fun t ht hW => ⟨⟨rfl, ⟨by rw [ht]; exact hS.1, va_K.moved hW.alike hKK, by rw [ht]; exact hS.2.2.1⟩, hS.2.2.2.F ht⟩, hKS⟩) hS.2.2.2.2.2 d hlk
theorem V_endA_v {hh : List (Nat × Nat × Nat × Nat)} {wf : Bool} (hX : XRA hh wf x cc nL own none fr lo K sz v (.inr c)) (hv : v c = (fun _ => none, K', z, g)) (hKS : KS wf K sz K' z) (d : decode cc pc = .ok (.return_, 1)) : V x nL K' (z - sz) (600 * (z - sz)) z g pc L [] := by
  obtain ⟨⟨hx, hb, hml, hown, hts, hr, hlk, hKK, hrm, -⟩, hQ, hA, -⟩ := hX
  intro H locs ls hS hl'
  rw [WS, hA] at hS
  rw [hQ]
  simp only [szA, QA, hv]
  refine vx_ret ?_
  exact W.vret hx hb hr (fun t ht hW => ⟨⟨rfl, ⟨by rw [ht]; exact hS.1, va_K.moved hW.alike hKK, by rw [ht]; exact hS.2.2.1⟩, hS.2.2.2.F ht⟩, hKS⟩) hS.2.2.2.2.2 d hlk
theorem ConA.of {wf : Bool} {r : (Nat × S3) ⊕ β} (own : String) (hy : plainName y.cls = true) (hown : y.cls = own) (hlen : ∀ b, (lg_sl (as b)).length ≤ nL) (h : ∀ x : CT, XRA [] wf x cc nL own ret fr lo K sz v r → x.2.1.2.2.1.name = y.name → V x nL K (sz - sz) (600 * (sz - sz)) sz g 0 (lv_args 0 (as (xb x))) []) : ConA wf sz y cc nL ret fr lo K as g v r := by
  intro l D dA b hfl
  refine vx_ofW (cc := cc) (maxL := nL) (ret := ret) hy rfl ?_
  intro p e s m args below meth c s₁ B hml hET hv
  obtain ⟨rfl, ⟨hWd, hK, hsz⟩, hSF⟩ := hv
  have hts := atoms_spec (ws := ws_ y cc nL ret) B.pre
  have hX : XRA [] wf ((p, l, e, _, s, m), ((as b).toArray, below, meth, c, vx_MQ below (QA wf K sz D dA b v (AKN b K sz) r) (XA_ wf K sz D dA b (AKN b K sz) r) (as b).toArray s (szA v r - sz) (600 * (szA v r - sz)) (AKN b K sz), AKN b K sz), (D, dA, b)) cc nL own ret fr lo K sz v r := ⟨⟨B.exec, B.bytes, hml, by rw [← hown]; exact findClass_of_methodNamed B.named, fun w h => hts w (List.mem_cons_of_mem _ h), B.returns, B.notSynchronized, hK, rfl, hSF, AKN_le, hfl⟩, rfl, rfl, hsz, List.eq_nil_iff_forall_not_mem.mpr hET⟩
  have h2 := h _ hX (name_of_methodNamed B.named B.method).1 s.heap [] _ ⟨hWd, fun o ho => Or.inl ⟨o, rfl, ho⟩, hsz, va_S.rf⟩ (lv_entry (as b) (n := nL) (hlen b))
  rw [lg_entry_eq]
  have e0 : sz - sz = 0 := Nat.sub_self sz
  rw [e0] at h2
  exact h2
end ENGB
section ENGT
variable {x : CT} {cc bytes : ByteArray} {nL maxL : Nat} {own C : String} {ret ret' : Option FieldType} {rm : Room} {K K' K0 : Nat → Nat} {ce sl sz z z0 : Nat} {g g' : GS} {pc : Nat} {L : List (Nat × Value)} {st rest As s0 s1 : List Value} {y : MethodName} {fr lo fr' lo' o idx n e : Nat} {as : Nat → List Value} {β γ : Type} {v : β → (Nat → Option Value) × S3} {w : γ → (Nat → Option Value) × S3}
/-- a call that throws, in a method that makes cells and does not catch -/
theorem V_callVTA {hh : List (Nat × Nat × Nat × Nat)} {wf : Bool} {e : Nat} {s' : S3} {ci N : Nat} {T : u_T} (hX : XRA hh wf x cc nL own ret fr' lo' K0 z0 w (.inl (e, s'))) (hout : ∀ q ∈ tableOf hh, covers q pc = false) (hm : z ≤ MX) (hK0 : KS wf K0 z0 K z) (hM : ConA wf z y bytes maxL ret' fr lo K as g v (.inl (e, s'))) (hg : GoodIn lw_all (wsV own idx C y (ws_ y bytes maxL ret')))
    (hd : y.cls = C ∧ y.cls ≠ "java/lang/invoke/MethodHandle" ∧ y.cls ≠ "java/lang/invoke/VarHandle" ∧ (parseMethodDescriptor y.desc).map (fun d => d.parameters.length) = some n) (hR : fr + 1 ≤ fr' ∧ 8 + (maxL + 11) + lo ≤ lo')
    (hcl : clT[ci]? = some (C, T, N)) (hci : ci < 100) (hK : K o = ci + 1) (ha : as (xb x) = .ref (xb x + o) :: As) (hn : As.length = n) (hc : (rest.map fun v => v.category).sum ≤ 8) (d : decode cc pc = .ok (.invokevirtual idx, 3))
    (h0 : s0 = As.reverse ++ .ref (xb x + o) :: rest) : V x nL K (z - z0) (600 * (z - z0)) z g pc L s0 := by
  subst h0
  obtain ⟨hX, hQ, hA, hz, hTB⟩ := hX
  refine V_le hz fun hle => ?_
  obtain ⟨hx, hb, hml, hown, hts, hr, hlk, hKK, hrm, hSF, hAb, hfl⟩ := hX
  intro H locs ls hS hl'
  rw [WS, hA] at hS
  rw [hA] at hAb
  rw [hQ]
  obtain ⟨r, h1, cell, q1, q2, q3, q4⟩ := (hS.1 o).1 ci hci hK
  cases hcl.symm.trans h1
  obtain ⟨hS2, hfc, kC, hkC, hkind⟩ := hKK.1 ci _ hcl
  have hAA : ∀ q, AKN (xb x) K z q → AKN (xb x) K0 z0 q := fun q hq => by
    rcases hq with ⟨o', e, h⟩ | h
    · rw [e]; exact hS.2.1 o' h
    · exact Or.inr (by omega)
  intro T0 hT X0
  rcases vx_runV (As := As) (rest := rest) ⟨hx, hb, hml, hown, hts⟩ (hM x.1.2.1 x.2.2.1 x.2.2.2.1 (xb x) hfl) (cwV n hts hg rfl rfl rfl hd (by rw [hrm]; exact hR)) ⟨WU.blind, ⟨cell, q1, by rw [q3]; rfl, by rw [q2]; exact hfc⟩, fun U hU hW => ⟨by rw [ha], ⟨by rw [hU]; exact hS.1, va_K.moved hW.alike hKK, by rw [hU]; exact hS.2.2.1⟩, by rw [hU]; exact hSF.on hW hAb hS.2.2.2⟩⟩ rfl hn hl'.1 rfl (lv_room hc) d (by rw [hrm]; exact ⟨by show z - z0 + (MX - z) ≤ MX - z0; omega, by show 600 * (z - z0) + 600 * (MX - z) ≤ 600 * (MX - z0); omega⟩) T0 hT X0 with ⟨v', st₀, t, T', L', h0, X', hL, e1, e2, hq, st⟩ | ⟨q, st₀, t, T', L', E, ce, h0, X', hL, e1, e2, ⟨hE, hqq, hW, hF, hKS⟩, hce, hcv, hcl, st⟩
  · exact hq.elim
  · obtain ⟨k1, k2, k3⟩ := vx_keep h0 e1 hS.2.2.2 (fun q _ hq => hAA q hq) hAA hL hF
    have hsz : T'.heap.size = xb x + s'.2.1 := by rw [e1]; exact hW.2.2
    have hsz0 : H.size = xb x + z := hS.2.2.1
    have hcc : z - z0 + (szA v (.inl (e, s')) - z) ≤ szA w (.inl (e, s')) - z0 := by
      show z - z0 + (s'.2.1 - z) ≤ s'.2.1 - z0
      omega
    obtain ⟨t2, a1, b1⟩ := vx_out (Qc := QA wf K0 z0 x.2.2.1 x.2.2.2.1 (xb x) w (AKN (xb x) K0 z0) (.inl (e, s'))) (XC := XA_ wf K0 z0 x.2.2.1 x.2.2.2.1 (xb x) (AKN (xb x) K0 z0) (.inl (e, s'))) (mc := szA w (.inl (e, s')) - z0) (ms := 600 * (szA w (.inl (e, s')) - z0)) (pc := pc) (ls := ls) (rest := rest) (fun q hq => hout q (by rw [← hTB]; exact hq)) hlk (by rw [e1]; exact hce) hcv hcl (fun t' ht hvm => ⟨hE, hqq, ⟨by rw [ht, e1]; exact hW.1, va_K.moved hvm hKK, by rw [ht, e1]; exact hW.2.2⟩, k3.F ht, hK0.tr hKS⟩) k3.2.2 hcc (by omega) T' rfl X'
    exact ⟨t2, st.trans a1, b1⟩
/-- a method that throws, told as one that may make cells -/
theorem ConThr.toA {wf : Bool} {e : Nat} {v : β → (Nat → Option Value) × S3} (h : ConThr sz y cc nL ret fr lo K as g e g') (hm : sz + 1 ≤ MX) (hks : KS wf K sz (kE e K sz) (sz + 1)) : ConA wf sz y cc nL ret fr lo K as g v (.inl (e, kE e K sz, sz + 1, g')) := by
  intro l D dA b hfl
  have h1 := h l D dA b hfl
  intro p e1 ha hc hk s m args below hf happ hP hK
  have h2 := h1 p e1 ha hc hk s m args below hf ((Spec.appliesLoose_iff hf).mpr ?_) hP hK
  · obtain ⟨q1, q2, q3⟩ := h2
    refine ⟨q1, q2, q3.1, q3.2.1, q3.2.2.1, ?_⟩
    rcases q3.2.2.2 with ⟨h, -⟩ | ⟨q, ho, E, ce, L, ⟨hE, hq, hW, hF⟩, hce, hcv, hcl, hwm, hsm, hL⟩
    · exact h.elim
    · refine Or.inr ⟨q, ho, E, ce, L, ⟨hE, by rw [hq]; rfl, hW, hF, hks⟩, hce, hcv, hcl, hwm, hsm.mono ?_ ?_, hL⟩
      · show 1 ≤ sz + 1 - sz
        omega
      · show 8 ≤ 600 * (sz + 1 - sz)
        omega
  · obtain ⟨a1, a2, a3, a4, a5, a6, a7, a8⟩ := (Spec.appliesLoose_iff hf).mp happ
    exact ⟨a1, a2, a3, a4, a5, a6, room_mono a7 (Nat.le_refl _) (Nat.le_refl _) (by show 1 ≤ MX - sz; omega) (by show 8 ≤ 600 * (MX - sz); omega), a8⟩
theorem V_callVTT {hh : List (Nat × Nat × Nat × Nat)} {wf : Bool} {e : Nat} {ci N : Nat} {T : u_T} (hX : XRA hh wf x cc nL own ret fr' lo' K0 z0 w (.inl (e, kE e K z, z + 1, g'))) (hout : ∀ q ∈ tableOf hh, covers q pc = false) (hm : z + 1 ≤ MX) (hK0 : KS wf K0 z0 K z) (hks : KS wf K z (kE e K z) (z + 1)) (hM : ConThr z y bytes maxL ret' fr lo K as g e g') (hg : GoodIn lw_all (wsV own idx C y (ws_ y bytes maxL ret')))
    (hd : y.cls = C ∧ y.cls ≠ "java/lang/invoke/MethodHandle" ∧ y.cls ≠ "java/lang/invoke/VarHandle" ∧ (parseMethodDescriptor y.desc).map (fun d => d.parameters.length) = some n) (hR : fr + 1 ≤ fr' ∧ 8 + (maxL + 11) + lo ≤ lo')
    (hcl : clT[ci]? = some (C, T, N)) (hci : ci < 100) (hK : K o = ci + 1) (ha : as (xb x) = .ref (xb x + o) :: As) (hn : As.length = n) (hc : (rest.map fun v => v.category).sum ≤ 8) (d : decode cc pc = .ok (.invokevirtual idx, 3))
    (h0 : s0 = As.reverse ++ .ref (xb x + o) :: rest) : V x nL K (z - z0) (600 * (z - z0)) z g pc L s0 :=
  V_callVTA (β := Unit) (v := fun _ => (fun _ => none, K, z, g)) hX hout (by omega) hK0 (hM.toA hm hks) hg hd hR hcl hci hK ha hn hc d h0
end ENGT
section ENGM
variable {x : CT} {cc bytes : ByteArray} {nL maxL : Nat} {own C : String} {ret ret' : Option FieldType} {rm : Room} {K K' K0 : Nat → Nat} {ce sl sz z z0 : Nat} {g g' : GS} {pc : Nat} {L : List (Nat × Value)} {st rest As s0 s1 : List Value} {o idx n e : Nat}
def aty (t : Nat) : FieldType := if t = 0 then .int else if t = 1 then .byte else if t = 2 then .boolean else .long
/-- an array of t's is made: t = 0 int, 1 byte, 2 boolean -/
theorem V_newarr {t N : Nat} {at' : ArrayType} (hX : XOK x cc nL own ret rm) (ht : t < 3) (hat : newarray.typeOf at' = aty t) (hw : Cond.arrayClass (newarray.typeOf at') ∈ lw_all) (hN : N < 10000) (hA : x.2.1.2.2.2.2.2 (xb x + sz)) (hcc : ce + 1 ≤ rm.cells ∧ sl + N ≤ rm.slots) (d : decode cc pc = .ok (.newarray at', 2))
    (k : V x nL (ku K sz (10000 * (t + 1) + N)) (ce + 1) (sl + N) (sz + 1) (newA sz 0 g) (pc + 2) L (.ref (xb x + sz) :: st)) : V x nL K ce sl sz g pc L (vI N :: st) := by
  obtain ⟨hx, hb, hml, hown, hts, hr, hlk, hKK, hrm, hSF, hAb, hfl⟩ := hX
  intro H locs ls hS hl'
  have zn : (Int32.ofInt (N : Int)).toInt = N := w32_of (by omega) (by omega)
  have hs : H.size = xb x + sz := hS.2.2.1
  have hcb : componentBytes (aty t) ≤ 8 := by
    rcases (show t = 0 ∨ t = 1 ∨ t = 2 by omega) with e | e | e
    · subst e; decide
    · subst e; decide
    · subst e; decide
  refine va_newaK hx hb (hts _ hw) rfl d rfl (N := N) (fun q => by
      have q2 := lt0_iff32.mp q
      unfold w32 at q2
      omega) (by show ((Int32.ofInt (N : Int)).toInt).toNat = N; rw [zn]; rfl) (by rw [hat]; have := Nat.mul_le_mul (Nat.le_of_lt hN) hcb; omega) (by rw [hrm]; exact hcc.1) (by rw [hrm]; exact hcc.2) hs fun H1 cA e1 z1 o1 hAr hNm => ?_
  have hcA : cA = x.2.2.2.1 t ∧ defaultValue (newarray.typeOf at') = .int 0 := by
    rw [hat] at hNm ⊢
    rcases (show t = 0 ∨ t = 1 ∨ t = 2 by omega) with e | e | e
    · subst e
      exact ⟨Option.some.inj (hNm.symm.trans (hKK.2 0 _ rfl).2), rfl⟩
    · subst e
      exact ⟨Option.some.inj (hNm.symm.trans (hKK.2 1 _ rfl).2), rfl⟩
    · subst e
      exact ⟨Option.some.inj (hNm.symm.trans (hKK.2 2 _ rfl).2), rfl⟩
  rw [hcA.2, hcA.1] at e1
  refine k H1 locs ls ⟨hS.1.made hs o1 (fun f o ho => rfl) (fun o k ho => by rw [gA_newA, if_neg ho]) ⟨fun ci' hc' e' => by omega, fun t' n' ht' hn' e' => ?_, fun t' n' h4 ht' hn' e' => by omega, fun i hi e' => by omega⟩, fun o ho => ?_, by rw [z1]; omega, ⟨by rw [z1, ← hs]; exact Nat.le_succ_of_le hS.2.2.2.1, fun q h1 h2 => by rw [o1 q (by rw [← hs]; exact Nat.lt_of_lt_of_le h1 hS.2.2.2.1)]; exact hS.2.2.2.2.1 q h1 h2, hS.2.2.2.2.2⟩⟩ hl'
  · have e2 : t' = t := by omega
    have e3 : n' = N := by omega
    subst e2 e3
    rw [e1, arrC_i ht, vp_cell_i]
    congr 2
    funext j
    rw [gA_newA, if_pos rfl]
    rfl
  · by_cases e : o = sz
    · rw [e]; exact hA
    · rw [ku_ne e] at ho
      exact hS.2.1 o ho
end ENGM
section ENGQ
variable {x : CT} {cc bytes : ByteArray} {nL maxL : Nat} {own C : String} {ret ret' : Option FieldType} {rm : Room} {K K' K0 : Nat → Nat} {ce sl sz z z0 : Nat} {g g' : GS} {pc : Nat} {L : List (Nat × Value)} {st rest As s0 s1 : List Value} {o idx n e : Nat}
theorem ao_at {D : va_G} {b : Nat} {s : State} {H : Heap} (h : SF D b s H) (q : Cond.arrayOver (.object C) ∈ lw_tbl) : va_AO C s := by
  obtain ⟨u0, b0, h1, h2, h3, -⟩ := h
  exact va_AO.moved h3.alike (va_AO.of (h2 _ q))
/-- an array of references is made: t = 4 plans, 6 watches -/
theorem V_anewarr {t N : Nat} (hX : XOK x cc nL own ret rm) (ht : 4 ≤ t) (ht8 : t < 8) (hty : (tysA x.2.2.2.1)[t]? = some (x.2.2.2.1 t, .object C)) (hk : Cond.classLink own idx C ∈ lw_all) (hw : Cond.arrayOver (.object C) ∈ lw_tbl) (hN : N < 10000) (hA : x.2.1.2.2.2.2.2 (xb x + sz)) (hcc : ce + 1 ≤ rm.cells ∧ sl + N ≤ rm.slots) (d : decode cc pc = .ok (.anewarray idx, 3))
    (k : V x nL (ku K sz (10000 * (t + 1) + N)) (ce + 1) (sl + N) (sz + 1) (newA sz (-1) g) (pc + 3) L (.ref (xb x + sz) :: st)) : V x nL K ce sl sz g pc L (vI N :: st) := by
  obtain ⟨hx, hb, hml, hown, hts, hr, hlk, hKK, hrm, hSF, hAb, hfl⟩ := hX
  intro H locs ls hS hl'
  have zn : (Int32.ofInt (N : Int)).toInt = N := w32_of (by omega) (by omega)
  have hs : H.size = xb x + sz := hS.2.2.1
  have hnn : (Int32.ofInt (N : Int)).toNatClampNeg = N := by show ((Int32.ofInt (N : Int)).toInt).toNat = N; rw [zn]; rfl
  refine W.anew hx hb hown (hts _ hk) (va_AO.use (ao_at hSF hw)) rfl d rfl (fun q => by
      have q2 := lt0_iff32.mp q
      unfold w32 at q2
      omega) (by rw [hnn]; omega) (by rw [hrm]; exact hcc.1) (by rw [hrm, hnn]; exact hcc.2) fun cA kA comp f1 f2 f3 f4 => ?_
  rw [hnn]
  have hcA : cA = x.2.2.2.1 t := by
    obtain ⟨_, _, _, _, _, hnm⟩ := (hKK.2 t _ hty).2
    exact Option.some.inj (f1.symm.trans hnm)
  generalize hH1 : H.push ({ cls := cA, slots := Array.replicate N .null, vm := .none } : Cell) = H1
  have z1 : H1.size = H.size + 1 := by rw [← hH1, Array.size_push]
  have e1 : H1[H.size]? = some (arrV cA N (fun _ => .null)) := by rw [← hH1, Array.getElem?_push_size, ← arrV_new]
  have o1 : ∀ q : Nat, q < H.size → H1[q]? = H[q]? := fun q hq => by rw [← hH1, Array.getElem?_push, if_neg (Nat.ne_of_lt hq)]
  rw [hs] at z1 e1 o1 ⊢
  rw [hcA] at e1
  refine k H1 locs ls ⟨hS.1.made hs o1 (fun f o ho => rfl) (fun o k ho => by rw [gA_newA, if_neg ho]) ⟨fun ci' hc' e' => by omega, fun t' n' ht' hn' e' => by omega, fun t' n' h4 ht' hn' e' => ?_, fun i hi e' => by omega⟩, fun o ho => ?_, by rw [z1]; omega, ⟨by rw [z1, ← hs]; exact Nat.le_succ_of_le hS.2.2.2.1, fun q h1 h2 => by rw [o1 q (by rw [← hs]; exact Nat.lt_of_lt_of_le h1 hS.2.2.2.1)]; exact hS.2.2.2.2.1 q h1 h2, hS.2.2.2.2.2⟩⟩ hl'
  · have e2 : t' = t := by omega
    have e3 : n' = N := by omega
    subst e2 e3
    rw [e1, vp_cell_q]
    congr 2
    funext j
    rw [gA_newA, if_pos rfl]
    rfl
  · by_cases e : o = sz
    · rw [e]; exact hA
    · rw [ku_ne e] at ho
      exact hS.2.1 o ho
end ENGQ
section ENGF
variable {x : CT} {cc bytes : ByteArray} {nL maxL : Nat} {own C : String} {ret ret' : Option FieldType} {rm : Room} {K K' K0 : Nat → Nat} {ce sl sz z z0 : Nat} {g g' : GS} {pc : Nat} {L : List (Nat × Value)} {st rest As s0 s1 : List Value} {fr lo o idx n e : Nat}
theorem limcc (h : z ≤ MX) : z - z0 ≤ (rmA fr lo z0).cells ∧ 600 * (z - z0) ≤ (rmA fr lo z0).slots := ⟨by show z - z0 ≤ MX - z0; omega, by show 600 * (z - z0) ≤ 600 * (MX - z0); omega⟩
theorem V_newarrA {t N : Nat} {at' : ArrayType} (hX : XOK x cc nL own ret (rmA fr lo z0)) (hz : x.1.2.2.2.2.1.heap.size = xb x + z0) (hA : ∀ q, xb x + z0 ≤ q → x.2.1.2.2.2.2.2 q) (hm : z + 1 ≤ MX) (ht : t < 3) (hat : newarray.typeOf at' = aty t) (hw : Cond.arrayClass (newarray.typeOf at') ∈ lw_all) (hN : N ≤ 600) (d : decode cc pc = .ok (.newarray at', 2))
    (k : V x nL (ku K z (10000 * (t + 1) + N)) (z + 1 - z0) (600 * (z + 1 - z0)) (z + 1) (newA z 0 g) (pc + 2) L (.ref (xb x + z) :: st)) : V x nL K (z - z0) (600 * (z - z0)) z g pc L (vI N :: st) := by
  refine V_le hz fun h0 => ?_
  refine V_newarr hX ht hat hw (by omega) (hA _ (by omega)) ⟨?_, ?_⟩ d (V_widen ?_ ?_ k)
  · show z - z0 + 1 ≤ MX - z0
    omega
  · show 600 * (z - z0) + N ≤ 600 * (MX - z0)
    omega
  · omega
  · omega
end ENGF
section ENGH
variable {x : CT} {cc bytes : ByteArray} {nL maxL : Nat} {own C : String} {ret ret' : Option FieldType} {rm : Room} {K K' : Nat → Nat} {ce sl sz z z0 : Nat} {g g' : GS} {pc : Nat} {L : List (Nat × Value)} {st rest As s0 s1 : List Value} {y : MethodName} {fr lo fr' lo' o idx n e i : Nat} {as : Nat → List Value} {β : Type} {v : β → (Nat → Option Value) × S3} {c : β} {nm : String}
theorem V_endA_a {hh : List (Nat × Nat × Nat × Nat)} {wf : Bool} (hX : XRA hh wf x cc nL own (some (.object nm)) fr lo K sz v (.inr c)) (hv : v c = (fun b => some (.ref (b + i)), K', z, g)) (hKS : KS wf K sz K' z) (d : decode cc pc = .ok (.areturn, 1)) : V x nL K' (z - sz) (600 * (z - sz)) z g pc L [.ref (xb x + i)] := by
  obtain ⟨⟨hx, hb, hml, hown, hts, hr, hlk, hKK, hrm, -⟩, hQ, hA, -⟩ := hX
  intro H locs ls hS hl'
  rw [WS, hA] at hS
  rw [hQ]
  simp only [szA, QA, hv]
  refine vx_ret ?_
  exact W.aret hx hb hr (Or.inl ⟨_, rfl⟩) (Or.inr ⟨_, rfl⟩) (fun t ht hW => ⟨⟨rfl, ⟨by rw [ht]; exact hS.1, va_K.moved hW.alike hKK, by rw [ht]; exact hS.2.2.1⟩, hS.2.2.2.F ht⟩, hKS⟩) hS.2.2.2.2.2 d hlk
end ENGH
