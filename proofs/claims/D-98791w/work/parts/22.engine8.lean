/-! ENGINE 8: cells that are made -/
set_option maxRecDepth 100000
def ku (K : Nat → Nat) (z kd : Nat) : Nat → Nat := fun o => if o = z then kd else K o
theorem ku_self {K : Nat → Nat} {z kd : Nat} : ku K z kd z = kd := if_pos rfl
theorem ku_ne {K : Nat → Nat} {z kd o : Nat} (h : o ≠ z) : ku K z kd o = K o := if_neg h
theorem kE3 (K : Nat → Nat) (sz : Nat) : kE 3 K sz = ku K sz 13 := funext fun o => by
  unfold kE ku
  by_cases h : o = sz
  · rw [if_pos ⟨rfl, h⟩, if_pos h]
  · rw [if_neg (fun z => h z.2), if_neg h]
def df_ (ci j : Nat) : Int := if (lt_ ci j).1 = 0 then 0 else -1
/-- the object born z-th, new: its fields hold nothing -/
def newI (ci z : Nat) (g : GS) : GS := (fun f o => if o = z ∧ f / 100 = ci then df_ ci (f % 100) else gI g f o, g.2)
theorem gI_newI (ci z : Nat) (g : GS) (f o : Nat) : gI (newI ci z g) f o = if o = z ∧ f / 100 = ci then df_ ci (f % 100) else gI g f o := rfl
theorem gA_newI (ci z : Nat) (g : GS) (o k : Nat) : gA (newI ci z g) o k = gA g o k := rfl
def newA (z : Nat) (d : Int) (g : GS) : GS := (g.1, fun o k => if o = z then d else gA g o k)
theorem gI_newA (z : Nat) (d : Int) (g : GS) (f o : Nat) : gI (newA z d g) f o = gI g f o := rfl
theorem gA_newA (z : Nat) (d : Int) (g : GS) (o k : Nat) : gA (newA z d g) o k = if o = z then d else gA g o k := rfl
theorem fv_newI {b ci z j : Nat} {g : GS} (hj : j < 100) {v : Value} (h1 : (lt_ ci j).1 = 0 ∧ v = .int 0 ∨ (3 ≤ (lt_ ci j).1 ∧ v = .null)) : fv b (newI ci z g) z ci j = v := by
  have e1 : (100 * ci + j) / 100 = ci := by omega
  have e2 : (100 * ci + j) % 100 = j := by omega
  have e3 : gI (newI ci z g) (100 * ci + j) z = df_ ci j := by rw [gI_newI, if_pos ⟨rfl, e1⟩, e2]
  rcases h1 with ⟨h, rfl⟩ | ⟨h, rfl⟩
  · rw [fv_0 h, e3]
    unfold df_
    rw [if_pos h]
    rfl
  · have e4 : df_ ci j = -1 := by
      unfold df_
      rw [if_neg (by omega)]
    unfold fv
    rw [e3, e4]
    split
    · omega
    · omega
    · omega
    · rfl
    · rfl
/-- cells before z: the world goes on when one more is made -/
theorem Wd.made {D : va_G} {dA : Nat → ClassId} {b : Nat} {K : Nat → Nat} {g g' : GS} {H H1 : Heap} {z kd : Nat} (h : Wd D dA b K g H) (hz : H.size = b + z) (hq : ∀ q : Nat, q < b + z → H1[q]? = H[q]?) (hI : ∀ f o, o ≠ z → gI g' f o = gI g f o) (hA : ∀ o k, o ≠ z → gA g' o k = gA g o k) (hn : cOK D dA b g' z kd H1) : Wd D dA b (ku K z kd) g' H1 := by
  intro o
  by_cases e : o = z
  · subst e
    rw [ku_self]
    exact hn
  · rw [ku_ne e]
    have h1 : cOK D dA b g o (K o) H1 := (h o).lt (fun q hq2 => hq q (by omega))
    exact h1.kept rfl (fun f => hI f o e) (fun k => hA o k e)
section ENGN
variable {x : CT} {cc bytes : ByteArray} {nL maxL : Nat} {own C : String} {ret ret' : Option FieldType} {rm : Room} {K : Nat → Nat} {ce sl sz : Nat} {g g' : GS} {pc : Nat} {L : List (Nat × Value)} {st rest As s0 s1 : List Value} {y : MethodName} {fr lo fr' lo' o idx n e : Nat} {as : Nat → List Value} {v : Nat → Option Value}
theorem V_new {ci N : Nat} {T : u_T} (hX : XOK x cc nL own ret rm) (hc : clT[ci]? = some (C, T, N)) (hin : ∀ w ∈ u_ws C T N, w ∈ lw_all) (ty0 : Nat → FieldType) (hty : ∀ k, k < N → parseFieldDescriptor (T k).2.2.1 = some (ty0 k)) (hci : ci < 100) (hN : N < 100) (hcl : Cond.classLink own idx C ∈ lw_all) (hinst : Cond.instantiable C N ∈ lw_all) (hini : Cond.initialized C ∈ lw_all)
    (hdef : ∀ j, j < N → (lt_ ci j).1 = 0 ∧ defaultValue (ty0 j) = .int 0 ∨ (3 ≤ (lt_ ci j).1 ∧ defaultValue (ty0 j) = .null)) (hA : x.2.1.2.2.2.2.2 (xb x + sz)) (hcc : ce + 1 ≤ rm.cells ∧ sl + N ≤ rm.slots) (d : decode cc pc = .ok (.new idx, 3))
    (k : V x nL (ku K sz (ci + 1)) (ce + 1) (sl + N) (sz + 1) (newI ci sz g) (pc + 3) L (.ref (xb x + sz) :: st)) : V x nL K ce sl sz g pc L st := by
  obtain ⟨hx, hb, hml, hown, hts, hr, hlk, hKK, hrm, hSF, hAb, hfl⟩ := hX
  intro H locs ls hS hl'
  have hKn := hKK.1 ci _ hc
  refine W.newcK hx hb hown (hts _ hcl) (hts _ hinst) (hts _ hini) rfl d (by rw [hrm]; exact hcc.1) (by rw [hrm]; exact hcc.2) hKn.2.1 rfl fun H1 kC hkC e1 z1 o1 => ?_
  have hs : H.size = xb x + sz := hS.2.2.1
  rw [hs] at e1 z1 o1 ⊢
  refine k H1 locs ls ⟨hS.1.made hs o1 (fun f o ho => by rw [gI_newI, if_neg (fun z => ho z.1)]) (fun o k _ => rfl) ⟨fun ci' hc' e' => ?_, fun t n ht hn e => by omega, fun t n h4 ht hn e => by omega, fun i hi e => by omega⟩, fun o ho => ?_, by rw [z1]; omega, ⟨by rw [z1, ← hs]; exact Nat.le_succ_of_le hS.2.2.2.1, fun q h1 h2 => by rw [o1 q (by rw [← hs]; exact Nat.lt_of_lt_of_le h1 hS.2.2.2.1)]; exact hS.2.2.2.2.1 q h1 h2, hS.2.2.2.2.2⟩⟩ hl'
  · have e2 : ci' = ci := by omega
    subst e2
    exact ⟨_, hc, (u_born ty0 hts hin hKn hkC e1 hty).to fun j hj => (fv_newI (Nat.lt_trans hj hN) (hdef j hj)).symm⟩
  · by_cases e : o = sz
    · rw [e]; exact hA
    · rw [ku_ne e] at ho
      exact hS.2.1 o ho
/-- the same state under another name -/
theorem V_eq (h : g = g') (k : V x nL K ce sl sz g' pc L st) : V x nL K ce sl sz g pc L st := h ▸ k
theorem V_aconst (hX : XOK x cc nL own ret rm) (d : decode cc pc = .ok (.aconst_null, 1)) (k : V x nL K ce sl sz g (pc + 1) L (.null :: st)) : V x nL K ce sl sz g pc L st := by
  obtain ⟨hx, hb, -⟩ := hX
  exact fun H locs ls hS hl => lv_null hx hb d (k H locs ls hS hl)
theorem V_aloadN_n (hX : XOK x cc nL own ret rm) {i : Fin 4} (d : decode cc pc = .ok (.aload_n i, 1)) (q : Nat) (hL : L[q]? = some ((i : Nat), .null)) (k : V x nL K ce sl sz g (pc + 1) L (.null :: st)) : V x nL K ce sl sz g pc L st := by
  obtain ⟨hx, hb, -⟩ := hX
  exact fun H locs ls hS hl => lv_aload_nN hx hb d rfl (lv_at hl q hL) (k H locs ls hS hl)
/-- a call of a constructor -/
theorem V_callI (hX : XOK x cc nL own ret rm) (hM : Con1 sz y bytes maxL none fr lo K as g v g') (hl : Cond.methodLink own idx y ∈ lw_all) (hinst : Cond.instanceMethod y ∈ lw_all) (hini : Cond.initialized y.cls ∈ lw_all) (hcode : Cond.code y bytes maxL none ∈ lw_all)
    (hd : y.name = "<init>" ∧ y.cls ≠ "java/lang/invoke/MethodHandle" ∧ y.cls ≠ "java/lang/invoke/VarHandle" ∧ (parseMethodDescriptor y.desc).map (fun d => d.parameters.length) = some n) (hR : fr + 1 ≤ rm.frames ∧ 8 + (maxL + 11) + lo ≤ rm.locals)
    (ha : as (xb x) = .ref (xb x + o) :: As) (hn : As.length = n) (hc : (rest.map fun v => v.category).sum ≤ 8) (hcc : ce ≤ rm.cells ∧ sl ≤ rm.slots) (d : decode cc pc = .ok (.invokespecial idx, 3))
    (h0 : s0 = As.reverse ++ .ref (xb x + o) :: rest) (h1 : (v (xb x)).toList ++ rest = s1)
    (k : V x nL K ce sl sz g' (pc + 3) L s1) : V x nL K ce sl sz g pc L s0 := by
  subst h0 h1
  obtain ⟨hx, hb, hml, hown, hts, hr, hlk, hKK, hrm, hSF, hAb, hfl⟩ := hX
  intro H locs ls hS hl'
  refine call_QR (va_runI (As := As) (rest := rest) ⟨hx, hb, hml, hown, hts⟩ (hM x.1.2.1 x.2.2.1 x.2.2.2.1 (xb x) hfl) (cwI n hts (lw_meth hcode) rfl rfl rfl (hts _ hini) (hts _ hl) (hts _ hinst) hd.1 hd.2 (by rw [hrm]; exact hR)) ⟨WU.blind, fun U hU hW => ⟨by rw [ha], ⟨by rw [hU]; exact hS.1, va_K.moved hW.alike hKK, by rw [hU]; exact hS.2.2.1⟩, by rw [hU]; exact hSF.on hW hAb hS.2.2.2⟩⟩ rfl hn hl'.1 rfl (lv_room hc) d (by rw [hrm]; exact hcc)) hS.2.2.2 (fun q _ hq => by obtain ⟨o', e, h⟩ := hq; rw [e]; exact hS.2.1 o' h) (fun q hq => by obtain ⟨o', e, h⟩ := hq; rw [e]; exact hS.2.1 o' h) fun t H1 locs1 ht hvm hB hz hk hS1 => ?_
  rw [WU, ht] at hB
  exact k H1 locs1 ls ⟨hB.1, hS.2.1, hB.2.2, hS1⟩ hl'
end ENGN
