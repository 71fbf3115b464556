/-! ENGINE 14: a constructor told with its cells counted -/
set_option maxRecDepth 100000
def ConB (y : MethodName) (cc : ByteArray) (nL : Nat) (ret : Option FieldType) (fr lo mc ms sz : Nat) (K : Nat → Nat) (as : Nat → List Value) (g : GS) (v : Nat → Option Value) (K' : Nat → Nat) (sz' : Nat) (g' : GS) : Prop :=
  ∀ (l : Launch) (D : va_G) (dA : Nat → ClassId) (b : Nat), l.flags = flags0 → Met l y (ws_ y cc nL ret) ({ frames := fr, cells := mc, slots := ms, locals := lo }) (va_Pc (as b) (WS0 D dA b K sz g)) (QR (v b) (WU D dA b K' sz' g') (AKN b K sz)) mc ms (AKN b K sz)
section ENGI
variable {x : CT} {cc : ByteArray} {nL : Nat} {own : String} {ret : Option FieldType} {rm : Room} {K K' : Nat → Nat} {ce sl sz sz' : Nat} {g g' : GS} {pc : Nat} {L : List (Nat × Value)} {st : List Value} {y : MethodName} {fr lo mc ms : Nat} {as : Nat → List Value} {v : Nat → Option Value}
def XB (x : CT) (cc : ByteArray) (nL : Nat) (own : String) (ret : Option FieldType) (fr lo mc ms sz : Nat) (K : Nat → Nat) (v : Nat → Option Value) (K' : Nat → Nat) (sz' : Nat) (g' : GS) : Prop :=
  XOK x cc nL own ret ({ frames := fr, cells := mc, slots := ms, locals := lo }) ∧ x.2.1.2.2.2.2.1 = MQ x.2.1.2.1 (QR (v (xb x)) (WU x.2.2.1 x.2.2.2.1 (xb x) K' sz' g') (AKN (xb x) K sz)) x.2.1.1 x.1.2.2.2.2.1 mc ms (AKN (xb x) K sz) ∧ x.2.1.2.2.2.2.2 = AKN (xb x) K sz
theorem V_endB (hX : XB x cc nL own none fr lo mc ms sz K v K' sz' g') (hv : v (xb x) = none) (h1 : ce ≤ mc) (h2 : sl ≤ ms) (d : decode cc pc = .ok (.return_, 1)) : V x nL K' ce sl sz' g' pc L [] := by
  obtain ⟨⟨hx, hb, hml, hown, hts, hr, hlk, hKK, hrm, -⟩, hQ, hA⟩ := hX
  refine V_widen h1 h2 ?_
  intro H locs ls hS hl'
  rw [WS, hA] at hS
  rw [hQ, hv]
  exact W.vret hx hb hr (fun t ht hW => ⟨rfl, ⟨by rw [ht]; exact hS.1, va_K.moved hW.alike hKK, by rw [ht]; exact hS.2.2.1⟩, hS.2.2.2.F ht⟩) hS.2.2.2.2.2 d hlk
theorem V_K (h : K = K') (k : V x nL K' ce sl sz g pc L st) : V x nL K ce sl sz g pc L st := h ▸ k
theorem ConB.of (own : String) (hy : plainName y.cls = true) (hown : y.cls = own) (hlen : ∀ b, (lg_sl (as b)).length ≤ nL) (h : ∀ (x : CT), XB x cc nL own ret fr lo mc ms sz K v K' sz' g' → x.2.1.2.2.1.name = y.name → V x nL K 0 0 sz g 0 (lv_args 0 (as (xb x))) []) : ConB y cc nL ret fr lo mc ms sz K as g v K' sz' g' := by
  intro l D dA b hfl
  refine Met.ofW (cc := cc) (maxL := nL) (ret := ret) hy rfl ?_
  intro p e s m args below meth c s₁ B hml hv
  obtain ⟨rfl, ⟨hWd, hK, hsz⟩, hSF⟩ := hv
  have hts := atoms_spec (ws := ws_ y cc nL ret) B.pre
  have hX : XB ((p, l, e, _, s, m), ((as b).toArray, below, meth, c, MQ below (QR (v b) (WU D dA b K' sz' g') (AKN b K sz)) (as b).toArray s mc ms (AKN b K sz), AKN b K sz), (D, dA, b)) cc nL own ret fr lo mc ms sz K v K' sz' g' := ⟨⟨B.exec, B.bytes, hml, by rw [← hown]; exact findClass_of_methodNamed B.named, fun w h => hts w (List.mem_cons_of_mem _ h), B.returns, B.notSynchronized, hK, rfl, hSF, AKN_le, hfl⟩, rfl, rfl⟩
  have h2 := h _ hX (name_of_methodNamed B.named B.method).1 s.heap [] _ ⟨hWd, fun o ho => Or.inl ⟨o, rfl, ho⟩, hsz, va_S.rf⟩ (lv_entry (as b) (n := nL) (hlen b))
  rw [lg_entry_eq]
  exact h2
end ENGI
