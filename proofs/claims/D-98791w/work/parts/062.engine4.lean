/-! ENGINE 4: text constants -/
set_option maxRecDepth 100000
def STR (b sa : Nat) (t : List Int) (U : State) (H : Heap) : Prop := ∃ va : Nat, va_O "java/lang/String" sa (fun q => b ≤ q) U H ∧ va_OF "java/lang/String" "coder" "B" (.int 0) sa (fun q => b ≤ q) U H ∧ va_OF "java/lang/String" "value" "[B" (.ref va) sa (fun q => b ≤ q) U H ∧ va_T .byte va t.length (fun j => vI (t.getD j 0)) (fun q => b ≤ q) U H
def STT (b : Nat) (U : State) (H : Heap) : Prop := va_Z "java/lang/String" "COMPACT_STRINGS" "Z" (vI 1) (fun q => b ≤ q) U H ∧ va_Zq "jdk/internal/util/Preconditions" "SIOOBE_FORMATTER" "Ljava/util/function/BiFunction;" (fun q => b ≤ q) U H
theorem STR.go {b sa : Nat} {t : List Int} {u U : State} {H H1 : Heap} (h : STR b sa t u H) (hvm : u.vm.Alike U.vm) (hq : ∀ a : Nat, a < H.size → ¬ b ≤ a → H1[a]? = H[a]?) : STR b sa t U H1 := by
  obtain ⟨va, h1, h2, h3, h4⟩ := h
  exact ⟨va, (h1.moved hvm).kept hq, (h2.moved hvm).kept hq, (h3.moved hvm).kept hq, (h4.moved hvm).kept hq⟩
theorem STR.on {b sa : Nat} {t : List Int} {s U : State} {H : Heap} {A : Nat → Prop} {locs : List Loc} (h : STR b sa t s s.heap) (hW : s.WarmedH U.vm) (hA : ∀ q, A q → b ≤ q) (hS : va_S A s.heap H locs) : STR b sa t U H :=
  h.go hW.alike (fun a h1 h2 => hS.2.1 a h1 (fun z => h2 (hA a z)))
def pickC : List Nat → Cond → Cond
  | [], c => c
  | b :: l, .and u v => pickC l (if b = 0 then u else v)
  | _ :: _, c => c
theorem pick_before {args : Array Value} {s : State} : ∀ (l : List Nat) (T : Cond), T.before args s = true → (pickC l T).before args s = true := by
  intro l
  induction l with
  | nil => intro T h; exact h
  | cons b l ih =>
    intro T h
    cases T with
    | and u v =>
      rw [Cond.before_and, Bool.and_eq_true] at h
      rw [pickC]
      split
      · exact ih _ h.1
      · exact ih _ h.2
    | _ => exact h
abbrev PG : Cond := Jvm.Cond.and given_1 narrow_1
theorem str_ex : ∀ i, i < 39 → pickC (stP i 0) PG = Cond.exactly (stm i) "java/lang/String" := by decide +kernel
theorem str_co : ∀ i, i < 39 → pickC (stP i 1) PG = Cond.eq (.field (stm i) "java/lang/String" "coder" "B") (.int 0) := by decide +kernel
theorem str_ar : ∀ i, i < 39 → pickC (stP i 2) PG = Cond.arrayOf (.field (stm i) "java/lang/String" "value" "[B") .byte := by decide +kernel
theorem str_le : ∀ i, i < 39 → pickC (stP i 3) PG = Cond.eq (.length (.field (stm i) "java/lang/String" "value" "[B")) (.int (Int32.ofNat (stx i).length)) := by decide +kernel
theorem str_el : ∀ i, i < 39 → ∀ j, j < (stx i).length → pickC (stP i (4 + j)) PG = Cond.eq (.elem (.field (stm i) "java/lang/String" "value" "[B") (.int (Int32.ofNat j))) (.int (Int32.ofInt ((stx i).getD j 0))) := by decide +kernel
theorem str_sm : ∀ i, i < 39 → (stx i).length < 2 ^ 31 := by decide +kernel
theorem cs_1 : pickC [1, 0, 0, 0, 0, 0, 0, 1, 0, 1] PG = Cond.eq (.static "java/lang/String" "COMPACT_STRINGS" "Z") (.int 1) := by decide +kernel
theorem sf_1 : pickC [1, 0, 0, 0, 0, 0, 0, 1, 1, 0] PG = Cond.isRef (.static "jdk/internal/util/Preconditions" "SIOOBE_FORMATTER" "Ljava/util/function/BiFunction;") := by decide +kernel
theorem SF.stt {D : va_G} {b : Nat} {U : State} {H : Heap} (h : SF D b U H) : STT b U H := by
  obtain ⟨u0, b0, h1, h2, h3, h4, h5, h6, h7⟩ := h
  have hs : ∀ (l : List Nat) {c : Cond}, pickC l PG = c → c.before #[Value.ref b0] u0 = true := fun l c e => e ▸ pick_before l PG h1
  have hA : ∀ a : Nat, a < u0.heap.size → ¬ b ≤ a := fun a h => by omega
  have hq : ∀ a : Nat, a < u0.heap.size → ¬ b ≤ a → H[a]? = u0.heap[a]? := fun a h _ => h6 a h
  refine ⟨(va_Z.moved h3.alike (va_Zof (A := fun q => b ≤ q) (h2 _ q884) (h2 _ (lw_all_tbl q112)) (va_eqt (hs _ cs_1)) hA)).kept hq, (va_Zq.moved h3.alike (va_Zqof (A := fun q => b ≤ q) (h2 _ q900) (h2 _ (lw_all_tbl q114)) (hs _ sf_1) hA)).kept hq⟩
/-- a text constant that is used, by its place -/
theorem SF.strD {D : va_G} {b : Nat} {U : State} {H : Heap} (h : SF D b U H) (i : Nat) (hi : i < 39) : STR b (D.2 1000 i) (stx i) U H := by
  obtain ⟨u0, b0, h1, h2, h3, h4, h5, h6, h7⟩ := h
  have hs : ∀ (l : List Nat) {c : Cond}, pickC l PG = c → c.before #[Value.ref b0] u0 = true := fun l c e => e ▸ pick_before l PG h1
  have hA : ∀ a : Nat, a < u0.heap.size → ¬ b ≤ a := fun a h => by omega
  have hq : ∀ a : Nat, a < u0.heap.size → ¬ b ≤ a → H[a]? = u0.heap[a]? := fun a h _ => h6 a h
  obtain ⟨a, c, cA, kA, q1, q2, q3, q4, q5, q6, -⟩ := Cond.exactly_spec (hs _ (str_ex i hi))
  cases q1.symm.trans (h7 i hi)
  obtain ⟨t, ht, hT⟩ := va_Tof (f := fun j => vI ((stx i).getD j 0)) (A := fun q => b ≤ q) (str_sm i hi) (hs _ (str_ar i hi)) (va_eqt (hs _ (str_le i hi))) (fun j hj => va_eqt (hs _ (str_el i hi j hj))) hA
  have hST : STR b (D.2 1000 i) (stx i) u0 u0.heap := ⟨t, ⟨cA, q3, q5, by rw [q6]; exact q2, hA _ (Array.getElem?_eq_some_iff.mp q3).1⟩, vk_OFof q1 (va_eqt (hs _ (str_co i hi))) hA, vk_OFof q1 ht hA, hT⟩
  exact hST.go h3.alike hq
theorem SF.vkD {D : va_G} {b : Nat} {U : State} {H : Heap} (h : SF D b U H) (i : Nat) (hi : i < 39) (hw : Cond.stringRef (sto i) (stk i) (sts i) ∈ lw_tbl) : vk_R (sto i) (stk i) (sts i) (D.2 1000 i) U := by
  obtain ⟨u0, b0, h1, h2, h3, h4, h5, h6, h7⟩ := h
  exact vk_R.warm h3 (vk_R.of (h2 _ hw) (h7 i hi))
theorem SF.str {D : va_G} {b : Nat} {U : State} {H : Heap} (h : SF D b U H) (i : Nat) (hi : i < 39) (hw : Cond.stringRef (sto i) (stk i) (sts i) ∈ lw_tbl) : ∃ sa, vk_R (sto i) (stk i) (sts i) sa U ∧ STR b sa (stx i) U H := ⟨_, h.vkD i hi hw, h.strD i hi⟩
section ENGS
variable {x : CT} {cc bytes : ByteArray} {nL maxL : Nat} {own C : String} {ret ret' : Option FieldType} {rm : Room} {K : Nat → Nat} {ce sl sz : Nat} {g g' : GS} {pc : Nat} {L : List (Nat × Value)} {st rest As s0 s1 : List Value} {y : MethodName} {fr lo o idx n sa va : Nat} {as : Nat → List Value} {v : Nat → Option Value} {t : List Int}
/-- the static field holds what it held -/
theorem V_gets {D n : String} {w : Value} (hX : XOK x cc nL own ret rm) (hZ : va_Z C n D w (fun q => xb x ≤ q) x.1.2.2.2.2.1 x.1.2.2.2.2.1.heap) (hl : Cond.fieldLink own idx C n D ∈ lw_all) (d : decode cc pc = .ok (.getstatic idx, 3)) (k : V x nL K ce sl sz g (pc + 3) L (w :: st)) : V x nL K ce sl sz g pc L st := by
  obtain ⟨hx, hb, hml, hown, hts, hr, hlk, hKK, hrm, hSF, hAb, hfl⟩ := hX
  intro H locs ls hS hl'
  exact va_gets hx hb (hZ.narrow hAb) hS.2.2.2 hown (hts _ hl) (fun _ z => z) d (k H locs ls hS hl')
/-- a field of an object that was there before -/
theorem V_getO {D n : String} {w : Value} {a : Nat} (hX : XOK x cc nL own ret rm) (hZ : va_OF C n D w a (fun q => xb x ≤ q) x.1.2.2.2.2.1 x.1.2.2.2.2.1.heap) (hl : Cond.fieldLink own idx C n D ∈ lw_all) (d : decode cc pc = .ok (.getfield idx, 3)) (k : V x nL K ce sl sz g (pc + 3) L (w :: st)) : V x nL K ce sl sz g pc L (.ref a :: st) := by
  obtain ⟨hx, hb, hml, hown, hts, hr, hlk, hKK, hrm, hSF, hAb, hfl⟩ := hX
  intro H locs ls hS hl'
  exact vk_getf hx hb (hZ.narrow hAb) hS.2.2.2 hown (hts _ hl) (fun _ z => z) d (k H locs ls hS hl')
theorem V_alenT {f : Nat → Value} {a N : Nat} (hX : XOK x cc nL own ret rm) (hT : va_T .byte a N f (fun q => xb x ≤ q) x.1.2.2.2.2.1 x.1.2.2.2.2.1.heap) (d : decode cc pc = .ok (.arraylength, 1)) (k : V x nL K ce sl sz g (pc + 1) L (vI N :: st)) : V x nL K ce sl sz g pc L (.ref a :: st) := by
  obtain ⟨hx, hb, hml, hown, hts, hr, hlk, hKK, hrm, hSF, hAb, hfl⟩ := hX
  intro H locs ls hS hl'
  obtain ⟨cell, h1, h2, h3, h4, h5, h6, h7⟩ := (hT.narrow hAb).kept hS.2.2.2.2.1
  exact W.alen hx hb h1 h2 (by rw [h5, Int32.ofInt_eq_ofNat]) rfl rfl d (k H locs ls hS hl')
theorem V_baldT {f : Nat → Value} {a N : Nat} {i : Int} (hX : XOK x cc nL own ret rm) (hT : va_T .byte a N f (fun q => xb x ≤ q) x.1.2.2.2.2.1 x.1.2.2.2.2.1.heap) (hi : 0 ≤ w32 i ∧ w32 i < N) (d : decode cc pc = .ok (.baload, 1)) (k : V x nL K ce sl sz g (pc + 1) L (f (w32 i).toNat :: st)) : V x nL K ce sl sz g pc L (vI i :: .ref a :: st) := by
  obtain ⟨hx, hb, hml, hown, hts, hr, hlk, hKK, hrm, hSF, hAb, hfl⟩ := hX
  intro H locs ls hS hl'
  obtain ⟨cell, h1, h2, h3, h4, h5, h6, h7⟩ := (hT.narrow hAb).kept hS.2.2.2.2.1
  refine W.bald hx hb h1 h2 h3 (v := f (w32 i).toNat) (fun z => inb_of hi (z.imp id (fun y => Nat.le_trans h4 y))) (h6 _ (inb_lt hi)) rfl rfl d (k H locs ls hS hl')
theorem V_i2c (hX : XOK x cc nL own ret rm) {a : Int} (d : decode cc pc = .ok (.i2c, 1)) (h0 : 0 ≤ w32 a) (h1 : w32 a < 65536) (k : V x nL K ce sl sz g (pc + 1) L (vI a :: st)) : V x nL K ce sl sz g pc L (vI a :: st) := by
  obtain ⟨hx, hb, -⟩ := hX
  refine fun H locs ls hS hl => lv_i2c hx hb d ?_ (k H locs ls hS hl)
  rw [← w32_eqv a]
  generalize w32 a = z at h0 h1
  obtain ⟨n, rfl⟩ : ∃ n : Nat, z = n := ⟨z.toNat, by omega⟩
  rw [Int32.ofInt_eq_ofNat]
  have hn : n < 65536 := by omega
  have h := pk_char (Int32.ofNat n)
  rw [h]
  show nI _ = nI n
  rw [show (Int32.ofNat n).toBitVec.toNat = n from pk_tn (by omega), Nat.mod_eq_of_lt hn]
theorem V_ldcS {tx : String} (hX : XOK x cc nL own ret rm) (hZ : vk_R own idx tx sa x.1.2.2.2.2.1) (d : decode cc pc = .ok (.ldc idx, 2)) (k : V x nL K ce sl sz g (pc + 2) L (.ref sa :: st)) : V x nL K ce sl sz g pc L st := by
  obtain ⟨hx, hb, hml, hown, hts, hr, hlk, hKK, hrm, hSF, hAb, hfl⟩ := hX
  exact fun H locs ls hS hl => va_ldcS hx hb hown hZ d (k H locs ls hS hl)
end ENGS
/-- a contract with more asked of its start -/
def ConE (y : MethodName) (cc : ByteArray) (nL : Nat) (ret : Option FieldType) (fr lo : Nat) (K : Nat → Nat) (as : Nat → List Value) (E : Nat → State → Heap → Prop) (g : GS) (v : Nat → Option Value) (g' : GS) : Prop :=
  ∀ (l : Launch) (D : va_G) (dA : Nat → ClassId) (b sz : Nat), l.flags = flags0 → Met l y (ws_ y cc nL ret) ({ frames := fr, cells := 0, slots := 0, locals := lo }) (va_Pc (as b) (fun U => WS0 D dA b K sz g U ∧ E b U U.heap)) (QR (v b) (WU D dA b K sz g') (AK b K)) 0 0 (AK b K)
def blindE (E : Nat → State → Heap → Prop) : Prop := ∀ (b : Nat) (U : State) (g' : JFrame) (mk : MethodId) (a : Array Value), E b U U.heap → E b (U.calling g' mk a) (U.calling g' mk a).heap
theorem STR.blind {sa : Nat} {t : List Int} : blindE (fun b => STR b sa t) := fun b U g' mk a h => STR.go (u := U) (U := U.calling g' mk a) h (Vm.Alike.refl U.vm) (fun _ _ _ => rfl)
section ENG5
variable {x : CT} {cc bytes : ByteArray} {nL maxL : Nat} {own C : String} {ret ret' : Option FieldType} {rm : Room} {K : Nat → Nat} {ce sl sz : Nat} {g g' : GS} {pc : Nat} {L : List (Nat × Value)} {rest As s0 s1 : List Value} {y : MethodName} {fr lo a idx n : Nat} {as : Nat → List Value} {v : Nat → Option Value} {E : Nat → State → Heap → Prop}
/-- a call through an object that is old, or of the world -/
theorem V_callVE (hX : XOK x cc nL own ret rm) (hM : ConE y bytes maxL ret' fr lo K as E g v g') (hbl : blindE E) (hE : ∀ (U : State) (locs : List Loc), x.1.2.2.2.2.1.WarmedH U.vm → va_S x.2.1.2.2.2.2.2 x.1.2.2.2.2.1.heap U.heap locs → E (xb x) U U.heap) (hg : GoodIn lw_all (wsV own idx C y (ws_ y bytes maxL ret')))
    (hd : y.cls = C ∧ y.cls ≠ "java/lang/invoke/MethodHandle" ∧ y.cls ≠ "java/lang/invoke/VarHandle" ∧ (parseMethodDescriptor y.desc).map (fun d => d.parameters.length) = some n) (hR : fr + 1 ≤ rm.frames ∧ 8 + (maxL + 11) + lo ≤ rm.locals)
    (hrec : ∀ (H : Heap) (locs : List Loc), WS x K sz g H locs → ∃ cellB : Cell, H[a]? = some cellB ∧ cellB.vm.isStatics = false ∧ x.1.2.2.2.2.1.vm.findClass C = some cellB.cls) (ha : as (xb x) = .ref a :: As) (hn : As.length = n) (hc : (rest.map fun v => v.category).sum ≤ 8) (hcc : ce ≤ rm.cells ∧ sl ≤ rm.slots) (d : decode cc pc = .ok (.invokevirtual idx, 3))
    (h0 : s0 = As.reverse ++ .ref a :: rest) (h1 : (v (xb x)).toList ++ rest = s1)
    (k : V x nL K ce sl sz g' (pc + 3) L s1) : V x nL K ce sl sz g pc L s0 := by
  subst h0 h1
  obtain ⟨hx, hb, hml, hown, hts, hr, hlk, hKK, hrm, hSF, hAb, hfl⟩ := hX
  intro H locs ls hS hl'
  refine call_QR (va_runV (As := As) (rest := rest) ⟨hx, hb, hml, hown, hts⟩ (hM x.1.2.1 x.2.2.1 x.2.2.2.1 (xb x) sz hfl) (cwV n hts hg rfl rfl rfl hd (by rw [hrm]; exact hR)) ⟨fun a U g2 mk h => ⟨(WU.blind a U g2 mk ⟨h.1, h.2.1⟩).1, (WU.blind a U g2 mk ⟨h.1, h.2.1⟩).2, hbl _ U g2 mk a h.2.2⟩, hrec H locs hS, fun U hU hW => ⟨by rw [ha], ⟨⟨by rw [hU]; exact hS.1, va_K.moved hW.alike hKK, by rw [hU]; exact hS.2.2.1⟩, by rw [hU]; exact hSF.on hW hAb hS.2.2.2⟩, hE U locs hW (by rw [hU]; exact hS.2.2.2)⟩⟩ rfl hn hl'.1 rfl (lv_room hc) d (by rw [hrm]; exact hcc)) hS.2.2.2 (fun q _ hq => by obtain ⟨o', e, h⟩ := hq; rw [e]; exact hS.2.1 o' h) (fun q hq => by obtain ⟨o', e, h⟩ := hq; rw [e]; exact hS.2.1 o' h) fun t H1 locs1 ht hvm hB hz hk hS1 => ?_
  rw [WU, ht] at hB
  exact k H1 locs1 ls ⟨hB.1, hS.2.1, hB.2.2, hS1⟩ hl'
theorem V_callSE (hX : XOK x cc nL own ret rm) (hM : ConE y bytes maxL ret' fr lo K as E g v g') (hbl : blindE E) (hE : ∀ (U : State) (locs : List Loc), x.1.2.2.2.2.1.WarmedH U.vm → va_S x.2.1.2.2.2.2.2 x.1.2.2.2.2.1.heap U.heap locs → E (xb x) U U.heap) (hg : GoodIn lw_all (va_wsS own idx y (ws_ y bytes maxL ret')))
    (hd : y.cls ≠ "java/lang/invoke/MethodHandle" ∧ y.cls ≠ "java/lang/invoke/VarHandle" ∧ (parseMethodDescriptor y.desc).map (fun d => d.parameters.length) = some n) (hR : fr + 1 ≤ rm.frames ∧ 8 + (maxL + 11) + lo ≤ rm.locals)
    (ha : as (xb x) = As) (hn : As.length = n) (hc : (rest.map fun v => v.category).sum ≤ 8) (hcc : ce ≤ rm.cells ∧ sl ≤ rm.slots) (d : decode cc pc = .ok (.invokestatic idx, 3))
    (h0 : s0 = As.reverse ++ rest) (h1 : (v (xb x)).toList ++ rest = s1)
    (k : V x nL K ce sl sz g' (pc + 3) L s1) : V x nL K ce sl sz g pc L s0 := by
  subst h0 h1
  obtain ⟨hx, hb, hml, hown, hts, hr, hlk, hKK, hrm, hSF, hAb, hfl⟩ := hX
  intro H locs ls hS hl'
  refine call_QR (va_runS (As := As) (rest := rest) ⟨hx, hb, hml, hown, hts⟩ (hM x.1.2.1 x.2.2.1 x.2.2.2.1 (xb x) sz hfl) (va_cwS n hts hg rfl rfl rfl hd (by rw [hrm]; exact hR)) ⟨fun a U g2 mk h => ⟨(WU.blind a U g2 mk ⟨h.1, h.2.1⟩).1, (WU.blind a U g2 mk ⟨h.1, h.2.1⟩).2, hbl _ U g2 mk a h.2.2⟩, fun U hU hW => ⟨by rw [ha], ⟨⟨by rw [hU]; exact hS.1, va_K.moved hW.alike hKK, by rw [hU]; exact hS.2.2.1⟩, by rw [hU]; exact hSF.on hW hAb hS.2.2.2⟩, hE U locs hW (by rw [hU]; exact hS.2.2.2)⟩⟩ rfl hn hl'.1 rfl (lv_room hc) d (by rw [hrm]; exact hcc)) hS.2.2.2 (fun q _ hq => by obtain ⟨o', e, h⟩ := hq; rw [e]; exact hS.2.1 o' h) (fun q hq => by obtain ⟨o', e, h⟩ := hq; rw [e]; exact hS.2.1 o' h) fun t H1 locs1 ht hvm hB hz hk hS1 => ?_
  rw [WU, ht] at hB
  exact k H1 locs1 ls ⟨hB.1, hS.2.1, hB.2.2, hS1⟩ hl'
theorem ConE.of (own : String) (hy : plainName y.cls = true) (hown : y.cls = own) (hlen : ∀ b, (lg_sl (as b)).length ≤ nL) (h : ∀ (x : CT) (sz : Nat), XR x cc nL own ret ({ frames := fr, cells := 0, slots := 0, locals := lo }) K sz v g' → E (xb x) x.1.2.2.2.2.1 x.1.2.2.2.2.1.heap → V x nL K 0 0 sz g 0 (lv_args 0 (as (xb x))) []) : ConE y cc nL ret fr lo K as E g v g' := by
  intro l D dA b sz hfl
  refine Met.ofW (cc := cc) (maxL := nL) (ret := ret) hy rfl ?_
  intro p e s m args below meth c s₁ B hml hv
  obtain ⟨rfl, ⟨⟨hWd, hK, hsz⟩, hSF⟩, hE⟩ := hv
  have hts := atoms_spec (ws := ws_ y cc nL ret) B.pre
  have hX : XR ((p, l, e, _, s, m), ((as b).toArray, below, meth, c, MQ below (QR (v b) (WU D dA b K sz g') (AK b K)) (as b).toArray s 0 0 (AK b K), AK b K), (D, dA, b)) cc nL own ret ({ frames := fr, cells := 0, slots := 0, locals := lo }) K sz v g' := ⟨⟨B.exec, B.bytes, hml, by rw [← hown]; exact findClass_of_methodNamed B.named, fun w h => hts w (List.mem_cons_of_mem _ h), B.returns, B.notSynchronized, hK, rfl, hSF, fun q hq => by obtain ⟨o, e, -⟩ := hq; rw [e]; exact Nat.le_add_right _ _, hfl⟩, rfl, rfl⟩
  have h2 := h _ sz hX hE s.heap [] _ ⟨hWd, fun o ho => ⟨o, rfl, ho⟩, hsz, va_S.rf⟩ (lv_entry (as b) (n := nL) (hlen b))
  rw [lg_entry_eq]
  exact h2
theorem Con.toE (h : Con y bytes maxL ret' fr lo K as g v g') : ConE y bytes maxL ret' fr lo K as (fun _ _ _ => True) g v g' := by
  intro l D dA b sz hfl
  have e : (va_Pc (as b) (fun U => WS0 D dA b K sz g U ∧ True)) = va_Pc (as b) (WS0 D dA b K sz g) := by
    unfold va_Pc
    funext v U
    simp
  rw [e]
  exact h l D dA b sz hfl
end ENG5
theorem str_recv {x : CT} {cc : ByteArray} {nL : Nat} {own : String} {ret : Option FieldType} {rm : Room} {K : Nat → Nat} {sz : Nat} {g : GS} {sa : Nat} {t : List Int} (hX : XOK x cc nL own ret rm) (h : STR (xb x) sa t x.1.2.2.2.2.1 x.1.2.2.2.2.1.heap) : ∀ (H : Heap) (locs : List Loc), WS x K sz g H locs → ∃ cellB : Cell, H[sa]? = some cellB ∧ cellB.vm.isStatics = false ∧ x.1.2.2.2.2.1.vm.findClass "java/lang/String" = some cellB.cls := by
  obtain ⟨hx, hb, hml, hown, hts, hr, hlk, hKK, hrm, hSF, hAb, hfl⟩ := hX
  intro H locs hS
  obtain ⟨va, h1, -⟩ := h
  obtain ⟨cell, a1, a2, a3, -⟩ := (h1.narrow hAb).kept hS.2.2.2.2.1
  exact ⟨cell, a1, a2, a3⟩
/-! the JDK's members: String.length, charAt and what they call -/
def asc (t : List Int) : Prop := ∀ j : Nat, j < t.length → 0 ≤ t.getD j 0 ∧ t.getD j 0 < 128
theorem con_coder {K : Nat → Nat} (g : GS) (sa : Nat) (t : List Int) : ConE yJ4_coder cJ4_coder 1 (some .byte) 1 12 K (fun _ => [.ref sa]) (fun b => STR b sa t) g (fun _ => some (vI 0)) g := by
  refine ConE.of RJ4 (by decide) rfl (fun b => Nat.le_of_ble_eq_true rfl) (fun x sz hX hE => ?_)
  have X := hX.1
  obtain ⟨va, h1, h2, h3, h4⟩ := hE
  have hst : STT (xb x) x.1.2.2.2.2.1 x.1.2.2.2.2.1.heap := X.2.2.2.2.2.2.2.2.2.1.stt
  show V x 1 K 0 0 sz g 0 [(0, .ref sa)] []
  refine V_gets X hst.1 q883 dJ4_coder_0 ?_
  refine V_if_eq (T := none) (F := some ()) (r := ()) (tgt := 13) X dJ4_coder_3 (by decide) rfl (fun h => by cases h) (fun _ => ?_)
  refine V_aload_n X dJ4_coder_6 0 rfl ?_
  refine V_getO X h2 q2274 dJ4_coder_7 ?_
  refine V_goto (tgt := 14) X dJ4_coder_10 (by decide) ?_
  obtain ⟨⟨hx, hb, hml, hown, hts, hr, hlk, hKK, hrm, -⟩, hQ, hA⟩ := hX
  intro H locs ls hS hl'
  rw [WS, hA] at hS
  rw [hQ]
  exact W.zret (v := 0) hx hb hr rfl (fun t ht hW => ⟨rfl, ⟨by rw [ht]; exact hS.1, va_K.moved hW.alike hKK, by rw [ht]; exact hS.2.2.1⟩, hS.2.2.2.F ht⟩) hS.2.2.2.2.2 dJ4_coder_14 hlk
theorem i_shr0 (n : Nat) : Int32.ofInt (i_shr n 0) = Int32.ofInt n := by
  unfold i_shr
  rw [Int32.ofInt_toInt]
  exact sb_shr0 _
theorem nar_c {a : Int} (h0 : 0 ≤ a) (h1 : a < 65536) : narrow .char (.int (Int32.ofInt a)) = .int (Int32.ofInt a) := by
  obtain ⟨n, rfl⟩ : ∃ n : Nat, a = n := ⟨a.toNat, by omega⟩
  rw [Int32.ofInt_eq_ofNat]
  exact (pk_charN (q := n) (by omega)).1
theorem V_end_c {x : CT} {cc : ByteArray} {nL : Nat} {own : String} {rm : Room} {K : Nat → Nat} {sz : Nat} {g : GS} {pc : Nat} {L : List (Nat × Value)} {v : Nat → Option Value} {a : Int} (hX : XR x cc nL own (some .char) rm K sz v g) (h0 : 0 ≤ a) (h1 : a < 65536) (hv : v (xb x) = some (vI a)) (d : decode cc pc = .ok (.ireturn, 1)) : V x nL K 0 0 sz g pc L [vI a] := by
  obtain ⟨⟨hx, hb, hml, hown, hts, hr, hlk, hKK, hrm, -⟩, hQ, hA⟩ := hX
  intro H locs ls hS hl'
  rw [WS, hA] at hS
  rw [hQ, hv]
  exact W.zret hx hb hr (nar_c h0 h1) (fun t ht hW => ⟨rfl, ⟨by rw [ht]; exact hS.1, va_K.moved hW.alike hKK, by rw [ht]; exact hS.2.2.1⟩, hS.2.2.2.F ht⟩) hS.2.2.2.2.2 d hlk
theorem gwJ4_coder : GoodIn lw_all (wsV RJ4 335 RJ4 yJ4_coder (ws_ yJ4_coder cJ4_coder 1 (some .byte))) := lw_V q879 q880 q881 q112 q882
theorem hdJ4_coder : yJ4_coder.cls = RJ4 ∧ yJ4_coder.cls ≠ "java/lang/invoke/MethodHandle" ∧ yJ4_coder.cls ≠ "java/lang/invoke/VarHandle" ∧ (parseMethodDescriptor yJ4_coder.desc).map (fun d => d.parameters.length) = some 0 := by decide +kernel
theorem con_length {K : Nat → Nat} (g : GS) (sa : Nat) (t : List Int) : ConE yJ4_length cJ4_length 1 (some .int) 2 40 K (fun _ => [.ref sa]) (fun b => STR b sa t) g (fun _ => some (vI t.length)) g := by
  refine ConE.of RJ4 (by decide) rfl (fun b => Nat.le_of_ble_eq_true rfl) (fun x sz hX hE => ?_)
  have X := hX.1
  have hE' := hE
  obtain ⟨va, h1, h2, h3, h4⟩ := hE'
  show V x 1 K 0 0 sz g 0 [(0, .ref sa)] []
  refine V_aload_n X dJ4_length_0 0 rfl ?_
  refine V_getO X h3 q2273 dJ4_length_1 ?_
  refine V_alenT X h4 dJ4_length_4 ?_
  refine V_aload_n X dJ4_length_5 0 rfl ?_
  refine V_callVE (As := []) (rest := [vI t.length]) (s1 := [vI 0, vI t.length]) X (con_coder g sa t) STR.blind (fun U locs hW hS => hE.on hW X.2.2.2.2.2.2.2.2.2.2.1 hS) gwJ4_coder hdJ4_coder (by decide) (str_recv X hE) rfl rfl (Nat.le_of_ble_eq_true rfl) ⟨Nat.zero_le _, Nat.zero_le _⟩ dJ4_length_6 rfl rfl ?_
  refine V_ishr X dJ4_length_9 ?_
  exact V_end_i hX (congrArg (fun z => some (Value.int z)) (i_shr0 _).symm) dJ4_length_10
theorem con_isLatin1 {K : Nat → Nat} (g : GS) (sa : Nat) (t : List Int) : ConE yJ4_isLatin1 cJ4_isLatin1 1 (some .boolean) 1 12 K (fun _ => [.ref sa]) (fun b => STR b sa t) g (fun _ => some (vI 1)) g := by
  refine ConE.of RJ4 (by decide) rfl (fun b => Nat.le_of_ble_eq_true rfl) (fun x sz hX hE => ?_)
  have X := hX.1
  obtain ⟨va, h1, h2, h3, h4⟩ := hE
  have hst : STT (xb x) x.1.2.2.2.2.1 x.1.2.2.2.2.1.heap := X.2.2.2.2.2.2.2.2.2.1.stt
  show V x 1 K 0 0 sz g 0 [(0, .ref sa)] []
  refine V_gets X hst.1 q883 dJ4_isLatin1_0 ?_
  refine V_if_eq (T := none) (F := some ()) (r := ()) (tgt := 17) X dJ4_isLatin1_3 (by decide) rfl (fun h => by cases h) (fun _ => ?_)
  refine V_aload_n X dJ4_isLatin1_6 0 rfl ?_
  refine V_getO X h2 q2274 dJ4_isLatin1_7 ?_
  refine V_if_ne (a := 0) (T := none) (F := some ()) (r := ()) (tgt := 17) X dJ4_isLatin1_10 (by decide) rfl (fun h => by cases h) (fun _ => ?_)
  refine V_iconst X dJ4_isLatin1_13 ?_
  refine V_goto (tgt := 18) X dJ4_isLatin1_14 (by decide) ?_
  exact V_end_z hX (Or.inr rfl) rfl dJ4_isLatin1_18
theorem con_pcheck {K : Nat → Nat} (g : GS) (i n : Int) (wv : Value) (hw : wv = .null ∨ ∃ t, wv = .ref t) (h0 : 0 ≤ w32 i) (h1 : w32 i < w32 n) : Con yJ6_checkIndex cJ6_checkIndex 3 (some .int) 1 12 K (fun _ => [vI i, vI n, wv]) g (fun _ => some (vI i)) g := by
  refine Con.of RJ6 (by decide) rfl (fun b => by rcases hw with rfl | ⟨t, rfl⟩ <;> exact Nat.le_of_ble_eq_true rfl) (fun x sz hX => ?_)
  have X := hX.1
  show V x 3 K 0 0 sz g 0 [(0, vI i), (1, vI n), (2, wv)] []
  refine V_iload_n X dJ6_checkIndex_0 0 rfl ?_
  refine V_if_lt (a := i) (T := none) (F := some ()) (r := ()) (tgt := 9) X dJ6_checkIndex_1 (by decide) (if_neg (by omega)) (fun h => by cases h) (fun _ => ?_)
  refine V_iload_n X dJ6_checkIndex_4 0 rfl ?_
  refine V_iload_n X dJ6_checkIndex_5 1 rfl ?_
  refine V_icmp_lt (a := i) (b := n) (T := some ()) (F := none) (r := ()) (tgt := 16) X dJ6_checkIndex_6 (by decide) (if_pos h1) (fun _ => ?_) (fun h => by cases h)
  refine V_iload_n X dJ6_checkIndex_16 0 rfl ?_
  exact V_end_i hX rfl dJ6_checkIndex_17
theorem gwJ4_pcheck : GoodIn lw_all (va_wsS RJ4 1059 yJ6_checkIndex (ws_ yJ6_checkIndex cJ6_checkIndex 3 (some .int))) := lw_S q901 q902 q114 q903
theorem hdJ6_checkIndex : yJ6_checkIndex.cls ≠ "java/lang/invoke/MethodHandle" ∧ yJ6_checkIndex.cls ≠ "java/lang/invoke/VarHandle" ∧ (parseMethodDescriptor yJ6_checkIndex.desc).map (fun d => d.parameters.length) = some 3 := by decide +kernel
theorem con_scheck {K : Nat → Nat} (g : GS) (i n : Int) (h0 : 0 ≤ w32 i) (h1 : w32 i < w32 n) : Con yJ4_checkIndex cJ4_checkIndex 2 none 2 50 K (fun _ => [vI i, vI n]) g (fun _ => none) g := by
  refine Con.of RJ4 (by decide) rfl (fun b => Nat.le_of_ble_eq_true rfl) (fun x sz hX => ?_)
  have X := hX.1
  have hst : STT (xb x) x.1.2.2.2.2.1 x.1.2.2.2.2.1.heap := X.2.2.2.2.2.2.2.2.2.1.stt
  have key : ∀ wv : Value, (wv = .null ∨ ∃ t, wv = .ref t) → va_Z "jdk/internal/util/Preconditions" "SIOOBE_FORMATTER" "Ljava/util/function/BiFunction;" wv (fun q => xb x ≤ q) x.1.2.2.2.2.1 x.1.2.2.2.2.1.heap → V x 2 K 0 0 sz g 0 [(0, vI i), (1, vI n)] [] := by
    intro wv hw hz
    refine V_iload_n X dJ4_checkIndex_0 0 rfl ?_
    refine V_iload_n X dJ4_checkIndex_1 1 rfl ?_
    refine V_gets X hz q899 dJ4_checkIndex_2 ?_
    refine V_callS (As := [vI i, vI n, wv]) (rest := []) (s1 := [vI i]) X (con_pcheck g i n wv hw h0 h1) gwJ4_pcheck hdJ6_checkIndex (by decide) rfl rfl (Nat.le_of_ble_eq_true rfl) ⟨Nat.zero_le _, Nat.zero_le _⟩ dJ4_checkIndex_5 rfl rfl ?_
    refine V_pop X dJ4_checkIndex_8 rfl ?_
    exact V_end_v hX rfl dJ4_checkIndex_9
  rcases hst.2 with h | ⟨t, h⟩
  · exact key _ (Or.inl rfl) h
  · exact key _ (Or.inr ⟨t, rfl⟩) h
theorem gwJ5_scheck : GoodIn lw_all (va_wsS RJ5 9 yJ4_checkIndex (ws_ yJ4_checkIndex cJ4_checkIndex 2 none)) := lw_S q896 q897 q112 q898
theorem hdJ4_checkIndex : yJ4_checkIndex.cls ≠ "java/lang/invoke/MethodHandle" ∧ yJ4_checkIndex.cls ≠ "java/lang/invoke/VarHandle" ∧ (parseMethodDescriptor yJ4_checkIndex.desc).map (fun d => d.parameters.length) = some 2 := by decide +kernel
theorem and255 {a : Int} (h0 : 0 ≤ a) (h1 : a < 128) : i_and a 255 = a := by
  obtain ⟨n, rfl⟩ : ∃ n : Nat, a = n := ⟨a.toNat, by omega⟩
  have e : ∀ m : Nat, m < 128 → i_and (m : Int) 255 = m := by decide
  exact e n (by omega)
theorem con_lchar {K : Nat → Nat} (g : GS) (va : Nat) (t : List Int) (i : Int) (ht : asc t) (h0 : 0 ≤ w32 i) (h1 : w32 i < t.length) (hl : t.length < 1000) : ConE yJ5_charAt cJ5_charAt 2 (some .char) 3 90 K (fun _ => [.ref va, vI i]) (fun b => va_T .byte va t.length (fun j => vI (t.getD j 0)) (fun q => b ≤ q)) g (fun _ => some (vI (t.getD (w32 i).toNat 0))) g := by
  refine ConE.of RJ5 (by decide) rfl (fun b => Nat.le_of_ble_eq_true rfl) (fun x sz hX hE => ?_)
  have X := hX.1
  show V x 2 K 0 0 sz g 0 [(0, .ref va), (1, vI i)] []
  refine V_iload_n X dJ5_charAt_0 1 rfl ?_
  refine V_aload_n X dJ5_charAt_1 0 rfl ?_
  refine V_alenT X hE dJ5_charAt_2 ?_
  refine V_callS (As := [vI i, vI t.length]) (rest := []) (s1 := []) X (con_scheck g i t.length h0 (by rw [w32_of (a := (t.length : Int)) (by omega) (by omega)]; exact h1)) gwJ5_scheck hdJ4_checkIndex (by decide) rfl rfl (Nat.le_of_ble_eq_true rfl) ⟨Nat.zero_le _, Nat.zero_le _⟩ dJ5_charAt_3 rfl rfl ?_
  refine V_aload_n X dJ5_charAt_6 0 rfl ?_
  refine V_iload_n X dJ5_charAt_7 1 rfl ?_
  refine V_baldT X hE ⟨h0, h1⟩ dJ5_charAt_8 ?_
  refine V_sipush (n := 255) X dJ5_charAt_9 (by decide) ?_
  refine V_iand X dJ5_charAt_12 ?_
  obtain ⟨c0, c1⟩ := ht (w32 i).toNat (by omega)
  rw [and255 c0 c1]
  refine V_i2c X dJ5_charAt_13 (by rw [w32_of (by omega) (by omega)]; exact c0) (by rw [w32_of (by omega) (by omega)]; omega) ?_
  exact V_end_c hX c0 (by omega) rfl dJ5_charAt_14
theorem gwJ4_isLatin1 : GoodIn lw_all (wsV RJ4 492 RJ4 yJ4_isLatin1 (ws_ yJ4_isLatin1 cJ4_isLatin1 1 (some .boolean))) := lw_V q889 q890 q891 q112 q892
theorem hdJ4_isLatin1 : yJ4_isLatin1.cls = RJ4 ∧ yJ4_isLatin1.cls ≠ "java/lang/invoke/MethodHandle" ∧ yJ4_isLatin1.cls ≠ "java/lang/invoke/VarHandle" ∧ (parseMethodDescriptor yJ4_isLatin1.desc).map (fun d => d.parameters.length) = some 0 := by decide +kernel
theorem gwJ4_lchar : GoodIn lw_all (va_wsS RJ4 495 yJ5_charAt (ws_ yJ5_charAt cJ5_charAt 2 (some .char))) := lw_S q893 q894 q113 q895
theorem hdJ5_charAt : yJ5_charAt.cls ≠ "java/lang/invoke/MethodHandle" ∧ yJ5_charAt.cls ≠ "java/lang/invoke/VarHandle" ∧ (parseMethodDescriptor yJ5_charAt.desc).map (fun d => d.parameters.length) = some 2 := by decide +kernel
theorem vaT_blind {va N : Nat} {f : Nat → Value} : blindE (fun b => va_T .byte va N f (fun q => b ≤ q)) := fun b U g' mk a h => va_T.moved (u := U) (U := U.calling g' mk a) (Vm.Alike.refl U.vm) h
theorem con_charAt {K : Nat → Nat} (g : GS) (sa : Nat) (t : List Int) (i : Int) (ht : asc t) (h0 : 0 ≤ w32 i) (h1 : w32 i < t.length) (hl : t.length < 1000) : ConE yJ4_charAt cJ4_charAt 2 (some .char) 4 130 K (fun _ => [.ref sa, vI i]) (fun b => STR b sa t) g (fun _ => some (vI (t.getD (w32 i).toNat 0))) g := by
  refine ConE.of RJ4 (by decide) rfl (fun b => Nat.le_of_ble_eq_true rfl) (fun x sz hX hE => ?_)
  have X := hX.1
  have hE' := hE
  obtain ⟨va, h1', h2, h3, h4⟩ := hE'
  have hAb := X.2.2.2.2.2.2.2.2.2.2.1
  show V x 2 K 0 0 sz g 0 [(0, .ref sa), (1, vI i)] []
  refine V_aload_n X dJ4_charAt_0 0 rfl ?_
  refine V_callVE (As := []) (rest := []) (s1 := [vI 1]) X (con_isLatin1 g sa t) STR.blind (fun U locs hW hS => hE.on hW hAb hS) gwJ4_isLatin1 hdJ4_isLatin1 (by decide) (str_recv X hE) rfl rfl (Nat.le_of_ble_eq_true rfl) ⟨Nat.zero_le _, Nat.zero_le _⟩ dJ4_charAt_1 rfl rfl ?_
  refine V_if_eq (T := none) (F := some ()) (r := ()) (tgt := 16) X dJ4_charAt_4 (by decide) rfl (fun h => by cases h) (fun _ => ?_)
  refine V_aload_n X dJ4_charAt_7 0 rfl ?_
  refine V_getO X h3 q2273 dJ4_charAt_8 ?_
  refine V_iload_n X dJ4_charAt_11 1 rfl ?_
  refine V_callSE (As := [.ref va, vI i]) (rest := []) (s1 := [vI (t.getD (w32 i).toNat 0)]) X (con_lchar g va t i ht h0 h1 hl) vaT_blind (fun U locs hW hS => ((h4.moved hW.alike).kept (fun a q1 q2 => hS.2.1 a q1 (fun z => q2 (hAb a z))))) gwJ4_lchar hdJ5_charAt (by decide) rfl rfl (Nat.le_of_ble_eq_true rfl) ⟨Nat.zero_le _, Nat.zero_le _⟩ dJ4_charAt_12 rfl rfl ?_
  obtain ⟨c0, c1⟩ := ht (w32 i).toNat (by omega)
  exact V_end_c hX c0 (by omega) rfl dJ4_charAt_15
def chA (t : List Int) (i : Int) : Option Int := if 0 ≤ w32 i ∧ w32 i < t.length then some (t.getD (w32 i).toNat 0) else none
theorem str_on {x : CT} {cc : ByteArray} {nL : Nat} {own : String} {ret : Option FieldType} {rm : Room} {sa : Nat} {t : List Int} (hX : XOK x cc nL own ret rm) (h : STR (xb x) sa t x.1.2.2.2.2.1 x.1.2.2.2.2.1.heap) : ∀ (U : State) (locs : List Loc), x.1.2.2.2.2.1.WarmedH U.vm → va_S x.2.1.2.2.2.2.2 x.1.2.2.2.2.1.heap U.heap locs → STR (xb x) sa t U U.heap :=
  fun U locs hW hS => h.on hW hX.2.2.2.2.2.2.2.2.2.2.1 hS
theorem xok_sf {x : CT} {cc : ByteArray} {nL : Nat} {own : String} {ret : Option FieldType} {rm : Room} (hX : XOK x cc nL own ret rm) : SF x.2.2.1 (xb x) x.1.2.2.2.2.1 x.1.2.2.2.2.1.heap := hX.2.2.2.2.2.2.2.2.2.1
theorem hdJ4_length : yJ4_length.cls = RJ4 ∧ yJ4_length.cls ≠ "java/lang/invoke/MethodHandle" ∧ yJ4_length.cls ≠ "java/lang/invoke/VarHandle" ∧ (parseMethodDescriptor yJ4_length.desc).map (fun d => d.parameters.length) = some 0 := by decide +kernel
theorem hdJ4_charAt : yJ4_charAt.cls = RJ4 ∧ yJ4_charAt.cls ≠ "java/lang/invoke/MethodHandle" ∧ yJ4_charAt.cls ≠ "java/lang/invoke/VarHandle" ∧ (parseMethodDescriptor yJ4_charAt.desc).map (fun d => d.parameters.length) = some 1 := by decide +kernel
section ENG6
variable {x : CT} {cc : ByteArray} {nL : Nat} {own : String} {ret : Option FieldType} {rm : Room} {K : Nat → Nat} {ce sl sz : Nat} {g : GS} {pc : Nat} {L : List (Nat × Value)} {st : List Value} {sa idx : Nat} {t : List Int}
theorem V_strlen (hX : XOK x cc nL own ret rm) (hE : STR (xb x) sa t x.1.2.2.2.2.1 x.1.2.2.2.2.1.heap) (hl : Cond.methodLink own idx yJ4_length ∈ lw_all) (hR : 3 ≤ rm.frames ∧ 60 ≤ rm.locals) (hc : (st.map fun v => v.category).sum ≤ 8) (hcc : ce ≤ rm.cells ∧ sl ≤ rm.slots) (d : decode cc pc = .ok (.invokevirtual idx, 3)) (k : V x nL K ce sl sz g (pc + 3) L (vI t.length :: st)) : V x nL K ce sl sz g pc L (.ref sa :: st) :=
  V_callVE (As := []) (rest := st) (s1 := vI t.length :: st) hX (con_length g sa t) STR.blind (str_on hX hE) (lw_V hl q876 q877 q112 q878) hdJ4_length ⟨hR.1, by omega⟩ (str_recv hX hE) rfl rfl hc hcc d rfl rfl k
theorem V_charAt {α : Type} {F : Int → Option α} {r : α} {i : Int} (hX : XOK x cc nL own ret rm) (hE : STR (xb x) sa t x.1.2.2.2.2.1 x.1.2.2.2.2.1.heap) (ht : asc t ∧ t.length < 1000) (hl : Cond.methodLink own idx yJ4_charAt ∈ lw_all) (hR : 5 ≤ rm.frames ∧ 160 ≤ rm.locals) (hc : (st.map fun v => v.category).sum ≤ 8) (hcc : ce ≤ rm.cells ∧ sl ≤ rm.slots) (d : decode cc pc = .ok (.invokevirtual idx, 3)) (h : (chA t i).bind F = some r) (k : ∀ v, F v = some r → V x nL K ce sl sz g (pc + 3) L (vI v :: st)) : V x nL K ce sl sz g pc L (vI i :: .ref sa :: st) := by
  obtain ⟨v, h1, h2⟩ := bind_some_eq h
  unfold chA at h1
  split at h1
  · rename_i hi
    cases h1
    exact V_callVE (As := [vI i]) (rest := st) (s1 := vI (t.getD (w32 i).toNat 0) :: st) hX (con_charAt g sa t i ht.1 hi.1 hi.2 ht.2) STR.blind (str_on hX hE) (lw_V hl q886 q887 q112 q888) hdJ4_charAt ⟨hR.1, by omega⟩ (str_recv hX hE) rfl rfl hc hcc d rfl rfl (k _ h2)
  · cases h1
end ENG6
theorem recv_w {x : CT} {cc : ByteArray} {nL : Nat} {own C : String} {ret : Option FieldType} {rm : Room} {K : Nat → Nat} {sz : Nat} {g : GS} {o ci N : Nat} {T : u_T} {H : Heap} {locs : List Loc} (hX : XOK x cc nL own ret rm) (hcl : clT[ci]? = some (C, T, N)) (hci : ci < 100) (hK : K o = ci + 1) (hS : WS x K sz g H locs) : ∃ cellB : Cell, H[xb x + o]? = some cellB ∧ cellB.vm.isStatics = false ∧ x.1.2.2.2.2.1.vm.findClass C = some cellB.cls := by
  obtain ⟨hx, hb, hml, hown, hts, hr, hlk, hKK, hrm, hSF, hAb, hfl⟩ := hX
  obtain ⟨r, h1, cell, q1, q2, q3, q4⟩ := (hS.1 o).1 ci hci hK
  cases hcl.symm.trans h1
  obtain ⟨hS2, hfc, kC, hkC, hkind⟩ := hKK.1 ci _ hcl
  exact ⟨cell, q1, by rw [q3]; rfl, by rw [q2]; exact hfc⟩
theorem V_ldcSw {x : CT} {cc : ByteArray} {nL : Nat} {own tx : String} {ret : Option FieldType} {rm : Room} {K : Nat → Nat} {ce sl sz : Nat} {g : GS} {pc idx sa : Nat} {L : List (Nat × Value)} {st : List Value} (hX : XOK x cc nL own ret rm) (hZ : vk_R own idx tx sa x.1.2.2.2.2.1) (d : decode cc pc = .ok (.ldc_w idx, 3)) (k : V x nL K ce sl sz g (pc + 3) L (.ref sa :: st)) : V x nL K ce sl sz g pc L st := by
  obtain ⟨⟨p, l, e, R, s, m⟩, ⟨args, below, meth, c, Q, A⟩, ⟨D, dA, b⟩⟩ := x
  obtain ⟨hx, hb, hml, hown, -⟩ := hX
  intro H locs ls hS hl T hT X
  obtain ⟨t, a1, b1⟩ := k H locs ls hS hl T hT X
  refine ⟨t, ?_, b1⟩
  obtain ⟨k1, cf, i, a', hk, hcf, hcp, -, hr, hev'⟩ := Cond.stringRef_spec hown hZ.1
  cases hZ.2.symm.trans hev'
  obtain ⟨k', hk', he⟩ := X.warmed.alike.2.2 _ _ hk
  have hr' : k'.resolved[idx]? = some (some (.string sa)) := by
    rcases X.warmed.entry hk hk' idx with h | ⟨h, -⟩
    · rw [h]; exact hr
    · rw [hr] at h; cases h
  have hb' : c.code = cc := hb
  have hx' : p.tables.exec = Jvm.exec := hx
  have d' : decode c.code pc = .ok (.ldc_w idx, 3) := by rw [hb']; exact d
  jvm_step X.here [hx', d', ldc_w.wp_string (e := e) (s := T) (f := F0 m pc ls st) X.here.top hk' (by rw [he]; exact hcf) hcp hr']
  exact a1
