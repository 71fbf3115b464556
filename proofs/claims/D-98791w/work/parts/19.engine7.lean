/-! ENGINE 7: methods that throw -/
set_option maxRecDepth 100000
theorem decl_at {D : va_G} {b : Nat} {s : State} {H : Heap} {args : Array Value} {y : MethodName} (h : SF D b s H) (q : Cond.declares y ∈ lw_tbl) : (Cond.declares y).before args s = true := by
  obtain ⟨u0, b0, h1, h2, h3, -⟩ := h
  exact va_tabs rfl (rfl : (u0.setVm s.vm).vm = s.vm) (by rw [Cond.declares_setVm h3.alike]; exact h2 _ q)
theorem cast_at {D : va_G} {b : Nat} {s : State} {H : Heap} {args : Array Value} {C T : String} (h : SF D b s H) (q : Cond.castable C T ∈ lw_tbl) : (Cond.castable C T).before args s = true := by
  obtain ⟨u0, b0, h1, h2, h3, -⟩ := h
  exact va_tabs rfl (rfl : (u0.setVm s.vm).vm = s.vm) (by rw [Cond.castable_setVm h3.alike]; exact h2 _ q)
theorem us_1 : pickC [1, 0, 0, 0, 0, 0, 0, 0, 1, 1] PG = Cond.isRef (.static Bundle.tN "UNASSIGNED_STACK" Bundle.steD) := by decide +kernel
theorem ss_1 : pickC [1, 0, 0, 0, 0, 0, 0, 1, 0, 0] PG = Cond.isRef (.static Bundle.tN "SUPPRESSED_SENTINEL" Bundle.listD) := by decide +kernel
theorem SF.thr {D : va_G} {b : Nat} {U : State} {H : Heap} (h : SF D b U H) : vx_Zq Bundle.tN "UNASSIGNED_STACK" Bundle.steD (fun q => b ≤ q) U H ∧ vx_Zq Bundle.tN "SUPPRESSED_SENTINEL" Bundle.listD (fun q => b ≤ q) U H := by
  obtain ⟨u0, b0, h1, h2, h3, h4, h5, h6, h7⟩ := h
  have hs : ∀ (l : List Nat) {c : Cond}, pickC l PG = c → c.before #[Value.ref b0] u0 = true := fun l c e => e ▸ pick_before l PG h1
  have hA : ∀ a : Nat, a < u0.heap.size → ¬ b ≤ a := fun a h => by omega
  have hq : ∀ a : Nat, a < u0.heap.size → ¬ b ≤ a → H[a]? = u0.heap[a]? := fun a h _ => h6 a h
  exact ⟨(vx_Zq.moved h3.alike (vx_Zqof (A := fun q => b ≤ q) (h2 _ q746) (h2 _ (lw_all_tbl q106)) (hs _ us_1) hA)).kept hq, (vx_Zq.moved h3.alike (vx_Zqof (A := fun q => b ≤ q) (h2 _ q748) (h2 _ (lw_all_tbl q106)) (hs _ ss_1) hA)).kept hq⟩
/-! the words of a throw -/
def AtOK (w : Cond) : Prop := vx_no w = true → w ∈ lw_all ∨ ((∃ y, w = .declares y) ∧ w ∈ lw_tbl) ∨ ((∃ C T, w = .castable C T) ∧ w ∈ lw_tbl)
theorem atG {w : Cond} (h : w ∈ lw_all) : AtOK w := fun _ => Or.inl h
theorem atD {y : MethodName} (h : Cond.declares y ∈ lw_tbl) : AtOK (.declares y) := fun _ => Or.inr (Or.inl ⟨⟨_, rfl⟩, h⟩)
theorem atC {C T : String} (h : Cond.castable C T ∈ lw_tbl) : AtOK (.castable C T) := fun _ => Or.inr (Or.inr ⟨⟨_, _, rfl⟩, h⟩)
theorem atN {w : Cond} (h : vx_no w = false) : AtOK w := fun z => by rw [h] at z; cases z
theorem atc {w : Cond} {B : List Cond} (h : AtOK w) (t : ∀ w ∈ B, AtOK w) : ∀ w' ∈ w :: B, AtOK w' := fun w' h' => (List.mem_cons.mp h').elim (fun e => by rw [e]; exact h) (t w')
theorem at0 : ∀ w ∈ ([] : List Cond), AtOK w := fun _ h => nomatch h
theorem lw_ot {w : Cond} (h : w ∈ lw_all) : vx_ot w = true := by
  have h1 := (List.mem_filter.mp h).2
  unfold vx_ot
  rw [h1, Bool.or_true]
theorem AtOK.ot {w : Cond} (h : AtOK w) (hn : vx_no w = true) : vx_ot w = true := by
  rcases h hn with h | ⟨⟨y, rfl⟩, -⟩ | ⟨⟨C, T, rfl⟩, -⟩
  · exact lw_ot h
  · rfl
  · rfl
theorem AtOK.at' {w : Cond} (h : AtOK w) (hn : vx_no w = true) {D : va_G} {b : Nat} {s : State} {H : Heap} {args : Array Value} (hSF : SF D b s H) (hts : ∀ w ∈ lw_all, w.before args s = true) : w.before args s = true := by
  rcases h hn with h | ⟨⟨y, rfl⟩, h⟩ | ⟨⟨C, T, rfl⟩, h⟩
  · exact hts _ h
  · exact decl_at hSF h
  · exact cast_at hSF h
def exn (e : Nat) : String := if e = 0 then "java/util/NoSuchElementException" else if e = 1 then "java/lang/IllegalArgumentException" else if e = 2 then "java/lang/IllegalStateException" else "RainWheel$Wrong"
abbrev exnames : List String := ["java/lang/RuntimeException", "java/lang/Exception"]
theorem at_0 : ∀ w ∈ Bundle.ownAtoms0 "RainWheel" 89 "java/util/NoSuchElementException" exnames, AtOK w :=
  atc (atG q106) <| atc (atG q741) <| atc (atG q750) <| atc (atG q755) <| atc (atG q758) <| atc (atG q760) <| atc (atG q742) <| atc (atG q743) <| atc (atG q132) <| atc (atG q133) <| atc (atG q744) <| atc (atG q749) <| atc (atG q756) <| atc (atG q773) <| atc (atG q731) <| atc (atG q774) <| atc (atG q733) <| atc (atG q775) <| atc (atG q735) <| atc (atG q745) <| atc (atN (by decide +kernel)) <| atc (atG q747) <| atc (atN (by decide +kernel)) <| atc (atG q737) <| atc (atG q1158) <| atc (atG q1159) <| atc (atG q1160) <| atc (atG q765) <| atc (atD q722) <| atc (atG q765) <| atc (atG q766) <| atc (atG q767) <| atc (atG q768) <| atc (atD q724) <| atc (atG q768) <| atc (atG q769) <| atc (atG q770) <| atc (atG q742) <| atc (atD q726) <| atc (atG q1157) <| atc (atG q1149) <| atc (atC q1150) <| atc (atG q1151) <| atc (atG q754) <| atc (atG q1152) <| atc (atG q1153) <| atc (atG q1154) <| atc (atG q1155) <| atc (atN (by decide +kernel)) <| atc (atN (by decide +kernel)) <| atc (atG q740) <| atc (atG q739) <| atc (atG q1156) <| at0
theorem at_1 : ∀ w ∈ Bundle.ownAtoms0 "RainWheel" 105 "java/lang/IllegalArgumentException" exnames, AtOK w :=
  atc (atG q106) <| atc (atG q741) <| atc (atG q750) <| atc (atG q755) <| atc (atG q758) <| atc (atG q760) <| atc (atG q742) <| atc (atG q743) <| atc (atG q132) <| atc (atG q133) <| atc (atG q744) <| atc (atG q749) <| atc (atG q756) <| atc (atG q773) <| atc (atG q731) <| atc (atG q774) <| atc (atG q733) <| atc (atG q775) <| atc (atG q735) <| atc (atG q745) <| atc (atN (by decide +kernel)) <| atc (atG q747) <| atc (atN (by decide +kernel)) <| atc (atG q737) <| atc (atG q762) <| atc (atG q763) <| atc (atG q764) <| atc (atG q765) <| atc (atD q722) <| atc (atG q765) <| atc (atG q766) <| atc (atG q767) <| atc (atG q768) <| atc (atD q724) <| atc (atG q768) <| atc (atG q769) <| atc (atG q770) <| atc (atG q742) <| atc (atD q726) <| atc (atG q761) <| atc (atG q720) <| atc (atC q721) <| atc (atG q728) <| atc (atG q729) <| atc (atG q730) <| atc (atG q732) <| atc (atG q734) <| atc (atG q736) <| atc (atN (by decide +kernel)) <| atc (atN (by decide +kernel)) <| atc (atG q740) <| atc (atG q739) <| atc (atG q738) <| at0
theorem at_2 : ∀ w ∈ Bundle.ownAtoms0 "RainWheel" 108 "java/lang/IllegalStateException" exnames, AtOK w :=
  atc (atG q106) <| atc (atG q741) <| atc (atG q750) <| atc (atG q755) <| atc (atG q758) <| atc (atG q760) <| atc (atG q742) <| atc (atG q743) <| atc (atG q132) <| atc (atG q133) <| atc (atG q744) <| atc (atG q749) <| atc (atG q756) <| atc (atG q773) <| atc (atG q731) <| atc (atG q774) <| atc (atG q733) <| atc (atG q775) <| atc (atG q735) <| atc (atG q745) <| atc (atN (by decide +kernel)) <| atc (atG q747) <| atc (atN (by decide +kernel)) <| atc (atG q737) <| atc (atG q1277) <| atc (atG q1278) <| atc (atG q1279) <| atc (atG q765) <| atc (atD q722) <| atc (atG q765) <| atc (atG q766) <| atc (atG q767) <| atc (atG q768) <| atc (atD q724) <| atc (atG q768) <| atc (atG q769) <| atc (atG q770) <| atc (atG q742) <| atc (atD q726) <| atc (atG q1276) <| atc (atG q1268) <| atc (atC q1269) <| atc (atG q1270) <| atc (atG q753) <| atc (atG q1271) <| atc (atG q1272) <| atc (atG q1273) <| atc (atG q1274) <| atc (atN (by decide +kernel)) <| atc (atN (by decide +kernel)) <| atc (atG q740) <| atc (atG q739) <| atc (atG q1275) <| at0
/-- the kinds after a throw of e: a text's fault is an object that is looked at later -/
def kE (e : Nat) (K : Nat → Nat) (sz : Nat) : Nat → Nat := fun o => if e = 3 ∧ o = sz then 13 else K o
theorem kE_ne {e : Nat} (h : e ≠ 3) (K : Nat → Nat) (sz : Nat) : kE e K sz = K := funext fun o => if_neg (fun z => h z.1)
theorem cOK.lt {D : va_G} {dA : Nat → ClassId} {b : Nat} {g : GS} {o kd : Nat} {H H1 : Heap} (h : cOK D dA b g o kd H) (hq : ∀ q : Nat, q < H.size → H1[q]? = H[q]?) : cOK D dA b g o kd H1 := by
  refine ⟨fun ci hc e => ?_, fun t n ht hn e => ?_, fun t n h4 ht hn e => ?_, fun i hi e => ?_⟩
  · obtain ⟨r, h2, h3⟩ := h.1 ci hc e
    have h4 := h3
    obtain ⟨cell, q1, -⟩ := h4
    exact ⟨r, h2, h3.kept (hq _ (Array.getElem?_eq_some_iff.mp q1).1)⟩
  · have h1 := h.2.1 t n ht hn e
    rw [hq _ (Array.getElem?_eq_some_iff.mp h1).1, h1]
  · have h1 := h.2.2.1 t n h4 ht hn e
    rw [hq _ (Array.getElem?_eq_some_iff.mp h1).1, h1]
  · have h1 := h.2.2.2 i hi e
    rw [hq _ (Array.getElem?_eq_some_iff.mp h1).1, h1]
theorem Wd.lt {D : va_G} {dA : Nat → ClassId} {b : Nat} {K : Nat → Nat} {g : GS} {H H1 : Heap} (h : Wd D dA b K g H) (hq : ∀ q : Nat, q < H.size → H1[q]? = H[q]?) : Wd D dA b K g H1 := fun o => (h o).lt hq
/-- what a method that makes cells may change -/
def AKN (b : Nat) (K : Nat → Nat) (z : Nat) : Nat → Prop := fun q => AK b K q ∨ b + z ≤ q
def XC_ (D : va_G) (dA : Nat → ClassId) (b : Nat) (K : Nat → Nat) (sz e : Nat) (g' : GS) : String → Addr → State → State → Prop := fun E q st t => E = exn e ∧ q = b + sz ∧ WU D dA b (kE e K sz) (sz + 1) g' t ∧ va_F (AKN b K sz) st t
/-- the contract of a method that throws -/
def ConThr (sz : Nat) (y : MethodName) (cc : ByteArray) (nL : Nat) (ret : Option FieldType) (fr lo : Nat) (K : Nat → Nat) (as : Nat → List Value) (g : GS) (e : Nat) (g' : GS) : Prop :=
  ∀ (l : Launch) (D : va_G) (dA : Nat → ClassId) (b : Nat), l.flags = flags0 → vx_Met l y (ws_ y cc nL ret) ({ frames := fr, cells := 1, slots := 8, locals := lo }) (va_Pc (as b) (WS0 D dA b K sz g)) (fun _ _ _ _ => False) (XC_ D dA b K sz e g') 1 8 (AKN b K sz)
def Con1 (sz : Nat) (y : MethodName) (cc : ByteArray) (nL : Nat) (ret : Option FieldType) (fr lo : Nat) (K : Nat → Nat) (as : Nat → List Value) (g : GS) (v : Nat → Option Value) (g' : GS) : Prop :=
  ∀ (l : Launch) (D : va_G) (dA : Nat → ClassId) (b : Nat), l.flags = flags0 → Met l y (ws_ y cc nL ret) ({ frames := fr, cells := 0, slots := 0, locals := lo }) (va_Pc (as b) (WS0 D dA b K sz g)) (QR (v b) (WU D dA b K sz g') (AK b K)) 0 0 (AK b K)
def ConX {β : Type} (sz : Nat) (y : MethodName) (cc : ByteArray) (nL : Nat) (ret : Option FieldType) (fr lo : Nat) (K : Nat → Nat) (as : Nat → List Value) (g : GS) (v : β → (Nat → Option Value) × GS) : (Nat × GS) ⊕ β → Prop
  | .inl e => ConThr sz y cc nL ret fr lo K as g e.1 e.2
  | .inr a => Con1 sz y cc nL ret fr lo K as g (v a).1 (v a).2
def cX {β : Type} : (Nat × GS) ⊕ β → Nat
  | .inl _ => 1
  | .inr _ => 0
def sX {β : Type} : (Nat × GS) ⊕ β → Nat
  | .inl _ => 8
  | .inr _ => 0
abbrev rmX {β : Type} (fr lo : Nat) (r : (Nat × GS) ⊕ β) : Room := { frames := fr, cells := cX r, slots := sX r, locals := lo }
def XT (x : CT) (cc : ByteArray) (nL : Nat) (own : String) (ret : Option FieldType) (fr lo : Nat) (K : Nat → Nat) (sz e : Nat) (g' : GS) : Prop :=
  XOK x cc nL own ret ({ frames := fr, cells := 1, slots := 8, locals := lo }) ∧ x.2.1.2.2.2.2.1 = vx_MQ x.2.1.2.1 (fun _ _ _ _ => False) (XC_ x.2.2.1 x.2.2.2.1 (xb x) K sz e g') x.2.1.1 x.1.2.2.2.2.1 1 8 (AKN (xb x) K sz) ∧ x.2.1.2.2.2.2.2 = AKN (xb x) K sz ∧ ∀ z ∈ x.2.1.2.2.2.1.exceptionTable.toList, False
def XRX {β : Type} (x : CT) (cc : ByteArray) (nL : Nat) (own : String) (ret : Option FieldType) (fr lo : Nat) (K : Nat → Nat) (sz : Nat) (v : β → (Nat → Option Value) × GS) : (Nat × GS) ⊕ β → Prop
  | .inl e => XT x cc nL own ret fr lo K sz e.1 e.2
  | .inr a => XR x cc nL own ret ({ frames := fr, cells := 0, slots := 0, locals := lo }) K sz (v a).1 (v a).2
theorem XRX.ok {β : Type} {x : CT} {cc : ByteArray} {nL : Nat} {own : String} {ret : Option FieldType} {fr lo : Nat} {K : Nat → Nat} {sz : Nat} {v : β → (Nat → Option Value) × GS} {r : (Nat × GS) ⊕ β} (h : XRX x cc nL own ret fr lo K sz v r) : XOK x cc nL own ret (rmX fr lo r) := by
  cases r with
  | inl e => exact h.1
  | inr a => exact h.1
def thT {α β γ : Type} (c : α ⊕ β) (A : α → γ) (F : β → γ) : γ := match c with
  | .inl e => A e
  | .inr r => F r
theorem thT_l {α β γ : Type} {e : α} {A : α → Option γ} {F : β → Option γ} {q : γ} (h : thT (.inl e) A F = some q) : A e = some q := h
theorem thT_r {α β γ : Type} {e : β} {A : α → Option γ} {F : β → Option γ} {q : γ} (h : thT (.inr e) A F = some q) : F e = some q := h
theorem va_S.up {b : Nat} {A : Nat → Prop} {H0 H : Heap} {locs : List Loc} (hA : ∀ q, A q → b ≤ q) (h : va_S A H0 H locs) : va_S (fun q => b ≤ q) H0 H locs := ⟨h.1, fun q h1 h2 => h.2.1 q h1 (fun z => h2 (hA q z)), fun q hq => hA _ (h.2.2 q hq)⟩
section ENGX
variable {x : CT} {cc bytes : ByteArray} {nL maxL : Nat} {own C : String} {ret ret' : Option FieldType} {rm : Room} {K : Nat → Nat} {ce sl sz : Nat} {g g' : GS} {pc : Nat} {L : List (Nat × Value)} {rest As s0 s1 : List Value} {y : MethodName} {fr lo fr' lo' o idx n e : Nat} {as : Nat → List Value} {v : Nat → Option Value}
theorem AK_le {b : Nat} {K : Nat → Nat} : ∀ q, AK b K q → b ≤ q := fun q h => by
  obtain ⟨o, e, -⟩ := h
  omega
theorem AKN_le {b : Nat} {K : Nat → Nat} {z : Nat} : ∀ q, AKN b K z q → b ≤ q := fun q h => by
  rcases h with ⟨o, e, -⟩ | h
  · omega
  · omega
/-- throw new E() -/
theorem V_throw0 {cls : String} {ik ic : Nat} (hX : XT x cc nL own ret fr lo K sz e g) (he : exn e = cls) (h3 : e ≠ 3) (hfit : Bundle.fit cls = true) (hk : Cond.classLink own ik cls ∈ lw_all) (hini : Cond.initialized cls ∈ lw_all) (hat : ∀ w ∈ Bundle.ownAtoms0 own ic cls exnames, AtOK w) (hR : 6 ≤ fr ∧ 90 ≤ lo)
    (d0 : decode cc pc = .ok (.new ik, 3)) (d3 : decode cc (pc + 3) = .ok (.dup, 1)) (d4 : decode cc (pc + 4) = .ok (.invokespecial ic, 3)) (d7 : decode cc (pc + 7) = .ok (.athrow, 1)) : V x nL K 0 0 sz g pc L [] := by
  obtain ⟨hX, hQ, hA, hET⟩ := hX
  obtain ⟨hx, hb, hml, hown, hts, hr, hlk, hKK, hrm, hSF, hAb, hfl⟩ := hX
  have hZ := hSF.thr
  intro H locs ls hS hl'
  rw [WS, hA] at hS
  rw [hQ]
  refine vx_throw0 (A := fun q => xb x ≤ q) (names := exnames) hx hb (by unfold Launch.stackTraces; rw [hfl]; decide +kernel) hown hfit (by decide +kernel) (hts _ hk) (hts _ hini)
    (fun w hw => (hat w (List.mem_filter.mp hw).1).at' (List.mem_filter.mp hw).2 hSF hts)
    (fun w hw => by
      rcases List.mem_cons.mp hw with h | hw
      · rw [h]; exact lw_ot hk
      rcases List.mem_cons.mp hw with h | hw
      · rw [h]; exact lw_ot hini
      · exact (hat w (List.mem_filter.mp hw).1).ot (List.mem_filter.mp hw).2) hZ.1 hZ.2 (hS.2.2.2.up AKN_le) (hl'.1.trans hml.symm) d0 d3 d4 d7 (fun z hz => (hET z hz).elim)
    (by rw [hrm]; show 2 + 3 < fr; omega) (by rw [hrm]; show 0 + (13 * (2 + 1) + 42) ≤ lo; omega) (by rw [hrm]; exact Nat.le_of_ble_eq_true rfl) (by rw [hrm]; exact Nat.le_of_ble_eq_true rfl) hlk (fun t hvm hsz hq => ?_) hS.2.2.2.2.2 (by decide) (by decide)
  refine ⟨he.symm, hS.2.2.1, ⟨by rw [kE_ne h3]; exact hS.1.lt hq, va_K.moved hvm hKK, by rw [hsz, hS.2.2.1]; omega⟩, by rw [hsz]; exact Nat.le_succ_of_le hS.2.2.2.1, fun q h1 h2 => by rw [hq q (Nat.lt_of_lt_of_le h1 hS.2.2.2.1)]; exact hS.2.2.2.2.1 q h1 h2⟩
theorem V_callV1 {ci N : Nat} {T : u_T} (hX : XOK x cc nL own ret rm) (hM : Con1 sz y bytes maxL ret' fr lo K as g v g') (hg : GoodIn lw_all (wsV own idx C y (ws_ y bytes maxL ret')))
    (hd : y.cls = C ∧ y.cls ≠ "java/lang/invoke/MethodHandle" ∧ y.cls ≠ "java/lang/invoke/VarHandle" ∧ (parseMethodDescriptor y.desc).map (fun d => d.parameters.length) = some n) (hR : fr + 1 ≤ rm.frames ∧ 8 + (maxL + 11) + lo ≤ rm.locals)
    (hcl : clT[ci]? = some (C, T, N)) (hci : ci < 100) (hK : K o = ci + 1) (ha : as (xb x) = .ref (xb x + o) :: As) (hn : As.length = n) (hc : (rest.map fun v => v.category).sum ≤ 8) (hcc : ce ≤ rm.cells ∧ sl ≤ rm.slots) (d : decode cc pc = .ok (.invokevirtual idx, 3))
    (h0 : s0 = As.reverse ++ .ref (xb x + o) :: rest) (h1 : (v (xb x)).toList ++ rest = s1)
    (k : V x nL K ce sl sz g' (pc + 3) L s1) : V x nL K ce sl sz g pc L s0 := by
  subst h0 h1
  obtain ⟨hx, hb, hml, hown, hts, hr, hlk, hKK, hrm, hSF, hAb, hfl⟩ := hX
  intro H locs ls hS hl'
  obtain ⟨r, h1, cell, q1, q2, q3, q4⟩ := (hS.1 o).1 ci hci hK
  cases hcl.symm.trans h1
  obtain ⟨hS2, hfc, kC, hkC, hkind⟩ := hKK.1 ci _ hcl
  refine call_QR (va_runV (As := As) (rest := rest) ⟨hx, hb, hml, hown, hts⟩ (hM x.1.2.1 x.2.2.1 x.2.2.2.1 (xb x) hfl) (cwV n hts hg rfl rfl rfl hd (by rw [hrm]; exact hR)) ⟨WU.blind, ⟨cell, q1, by rw [q3]; rfl, by rw [q2]; exact hfc⟩, fun U hU hW => ⟨by rw [ha], ⟨by rw [hU]; exact hS.1, va_K.moved hW.alike hKK, by rw [hU]; exact hS.2.2.1⟩, by rw [hU]; exact hSF.on hW hAb hS.2.2.2⟩⟩ rfl hn hl'.1 rfl (lv_room hc) d (by rw [hrm]; exact hcc)) hS.2.2.2 (fun q _ hq => by obtain ⟨o', e, h⟩ := hq; rw [e]; exact hS.2.1 o' h) (fun q hq => by obtain ⟨o', e, h⟩ := hq; rw [e]; exact hS.2.1 o' h) fun t H1 locs1 ht hvm hB hz hk hS1 => ?_
  rw [WU, ht] at hB
  exact k H1 locs1 ls ⟨hB.1, hS.2.1, hB.2.2, hS1⟩ hl'
/-- a call that throws, in a method that does not catch -/
theorem V_callVT {ci N : Nat} {T : u_T} (hX : XT x cc nL own ret fr' lo' K sz e g') (hM : ConThr sz y bytes maxL ret' fr lo K as g e g') (hg : GoodIn lw_all (wsV own idx C y (ws_ y bytes maxL ret')))
    (hd : y.cls = C ∧ y.cls ≠ "java/lang/invoke/MethodHandle" ∧ y.cls ≠ "java/lang/invoke/VarHandle" ∧ (parseMethodDescriptor y.desc).map (fun d => d.parameters.length) = some n) (hR : fr + 1 ≤ fr' ∧ 8 + (maxL + 11) + lo ≤ lo')
    (hcl : clT[ci]? = some (C, T, N)) (hci : ci < 100) (hK : K o = ci + 1) (ha : as (xb x) = .ref (xb x + o) :: As) (hn : As.length = n) (hc : (rest.map fun v => v.category).sum ≤ 8) (d : decode cc pc = .ok (.invokevirtual idx, 3))
    (h0 : s0 = As.reverse ++ .ref (xb x + o) :: rest) : V x nL K 0 0 sz g pc L s0 := by
  subst h0
  obtain ⟨hX, hQ, hA, hET⟩ := hX
  obtain ⟨hx, hb, hml, hown, hts, hr, hlk, hKK, hrm, hSF, hAb, hfl⟩ := hX
  intro H locs ls hS hl'
  rw [WS, hA] at hS
  rw [hA] at hAb
  rw [hQ]
  obtain ⟨r, h1, cell, q1, q2, q3, q4⟩ := (hS.1 o).1 ci hci hK
  cases hcl.symm.trans h1
  obtain ⟨hS2, hfc, kC, hkC, hkind⟩ := hKK.1 ci _ hcl
  intro T0 hT X0
  rcases vx_runV (As := As) (rest := rest) ⟨hx, hb, hml, hown, hts⟩ (hM x.1.2.1 x.2.2.1 x.2.2.2.1 (xb x) hfl) (cwV n hts hg rfl rfl rfl hd (by rw [hrm]; exact hR)) ⟨WU.blind, ⟨cell, q1, by rw [q3]; rfl, by rw [q2]; exact hfc⟩, fun U hU hW => ⟨by rw [ha], ⟨by rw [hU]; exact hS.1, va_K.moved hW.alike hKK, by rw [hU]; exact hS.2.2.1⟩, by rw [hU]; exact hSF.on hW hAb hS.2.2.2⟩⟩ rfl hn hl'.1 rfl (lv_room hc) d (by rw [hrm]; exact ⟨Nat.le_refl _, Nat.le_refl _⟩) T0 hT X0 with ⟨v, st₀, t, T', L, h0, X', hL, e1, e2, hq, st⟩ | ⟨q, st₀, t, T', L, E, ce, h0, X', hL, e1, e2, ⟨hE, hqq, hW, hF⟩, hce, hcv, hcl, st⟩
  · exact hq.elim
  · obtain ⟨k1, k2, k3⟩ := vx_keep h0 e1 hS.2.2.2 (fun q _ hq => hq) (fun q hq => hq) hL hF
    obtain ⟨t2, a1, b1⟩ := vx_out (Qc := fun _ _ _ _ => False) (XC := XC_ x.2.2.1 x.2.2.2.1 (xb x) K sz e g') (mc := 1) (ms := 8) (pc := pc) (ls := ls) (rest := rest) (fun z hz => (hET z hz).elim) hlk (by rw [e1]; exact hce) hcv hcl (fun t' ht hvm => ⟨hE, hqq, ⟨by rw [ht, e1]; exact hW.1, va_K.moved hvm hKK, by rw [ht, e1]; exact hW.2.2⟩, k3.F ht⟩) k3.2.2 (Nat.le_refl _) (Nat.le_refl _) T' rfl X'
    exact ⟨t2, st.trans a1, b1⟩
theorem ConX.of {β : Type} {v : β → (Nat → Option Value) × GS} {r : (Nat × GS) ⊕ β} (own : String) (hy : plainName y.cls = true) (hown : y.cls = own) (hlen : ∀ b, (lg_sl (as b)).length ≤ nL) (h : ∀ x : CT, XRX x cc nL own ret fr lo K sz v r → V x nL K 0 0 sz g 0 (lv_args 0 (as (xb x))) []) : ConX sz y cc nL ret fr lo K as g v r := by
  cases r with
  | inr a =>
    intro l D dA b hfl
    refine Met.ofW (cc := cc) (maxL := nL) (ret := ret) hy rfl ?_
    intro p e s m args below meth c s₁ B hml hv
    obtain ⟨rfl, ⟨hWd, hK, hsz⟩, hSF⟩ := hv
    have hts := atoms_spec (ws := ws_ y cc nL ret) B.pre
    have hX : XR ((p, l, e, _, s, m), ((as b).toArray, below, meth, c, MQ below (QR ((v a).1 b) (WU D dA b K sz (v a).2) (AK b K)) (as b).toArray s 0 0 (AK b K), AK b K), (D, dA, b)) cc nL own ret ({ frames := fr, cells := 0, slots := 0, locals := lo }) K sz (v a).1 (v a).2 := ⟨⟨B.exec, B.bytes, hml, by rw [← hown]; exact findClass_of_methodNamed B.named, fun w h => hts w (List.mem_cons_of_mem _ h), B.returns, B.notSynchronized, hK, rfl, hSF, AK_le, hfl⟩, rfl, rfl⟩
    have h2 := h _ hX s.heap [] _ ⟨hWd, fun o ho => ⟨o, rfl, ho⟩, hsz, va_S.rf⟩ (lv_entry (as b) (n := nL) (hlen b))
    rw [lg_entry_eq]
    exact h2
  | inl e0 =>
    intro l D dA b hfl
    refine vx_ofW (cc := cc) (maxL := nL) (ret := ret) hy rfl ?_
    intro p e s m args below meth c s₁ B hml hET hv
    obtain ⟨rfl, ⟨hWd, hK, hsz⟩, hSF⟩ := hv
    have hts := atoms_spec (ws := ws_ y cc nL ret) B.pre
    have hX : XT ((p, l, e, _, s, m), ((as b).toArray, below, meth, c, vx_MQ below (fun _ _ _ _ => False) (XC_ D dA b K sz e0.1 e0.2) (as b).toArray s 1 8 (AKN b K sz), AKN b K sz), (D, dA, b)) cc nL own ret fr lo K sz e0.1 e0.2 := ⟨⟨B.exec, B.bytes, hml, by rw [← hown]; exact findClass_of_methodNamed B.named, fun w h => hts w (List.mem_cons_of_mem _ h), B.returns, B.notSynchronized, hK, rfl, hSF, AKN_le, hfl⟩, rfl, rfl, hET⟩
    have h2 := h _ hX s.heap [] _ ⟨hWd, fun o ho => Or.inl ⟨o, rfl, ho⟩, hsz, va_S.rf⟩ (lv_entry (as b) (n := nL) (hlen b))
    rw [lg_entry_eq]
    exact h2
end ENGX
