/-! ENGINE 9: constructors that make no cells; a text's fault made and thrown -/
set_option maxRecDepth 100000
theorem fv_4 {b : Nat} {g : GS} {o ci j : Nat} (h : (lt_ ci j).1 = 4) : fv b g o ci j = va_rf (rvo 0 (gI g (100 * ci + j) o)) := by unfold fv; rw [h]; rfl
theorem rv_null : va_rf (rvo 0 (-1)) = .null := rfl
theorem rv_abs (t : Nat) : va_rf (rvo 0 (t : Int)) = .ref t := by
  unfold rvo
  rw [if_neg (by omega)]
  show Value.ref (0 + (t : Int).toNat) = .ref t
  rw [Int.toNat_natCast, Nat.zero_add]
theorem pfd_Thr : parseFieldDescriptor "Ljava/lang/Throwable;" = some (.object "java/lang/Throwable") := by decide +kernel
theorem pfd_Ste : parseFieldDescriptor "[Ljava/lang/StackTraceElement;" = some (.array (.object "java/lang/StackTraceElement")) := by decide +kernel
theorem pfd_Lst : parseFieldDescriptor "Ljava/util/List;" = some (.object "java/util/List") := by decide +kernel
theorem pfd_Str : parseFieldDescriptor "Ljava/lang/String;" = some (.object "java/lang/String") := by decide +kernel
section ENGC
variable {x : CT} {cc bytes : ByteArray} {nL maxL : Nat} {own C : String} {ret ret' : Option FieldType} {rm : Room} {K : Nat → Nat} {ce sl sz : Nat} {g g' : GS} {pc : Nat} {L : List (Nat × Value)} {st rest As s0 s1 : List Value} {y : MethodName} {fr lo fr' lo' o idx n e : Nat} {as : Nat → List Value} {v : Nat → Option Value}
theorem Con.at1 (h : Con y cc nL ret fr lo K as g v g') (sz : Nat) : Con1 sz y cc nL ret fr lo K as g v g' := fun l D dA b => h l D dA b sz
/-- a walk of the body is a contract; the body knows the method's name -/
theorem Con.ofI (own : String) (hy : plainName y.cls = true) (hown : y.cls = own) (hlen : ∀ b, (lg_sl (as b)).length ≤ nL) (h : ∀ (x : CT) (sz : Nat), XR x cc nL own ret ({ frames := fr, cells := 0, slots := 0, locals := lo }) K sz v g' → x.2.1.2.2.1.name = y.name → V x nL K 0 0 sz g 0 (lv_args 0 (as (xb x))) []) : Con y cc nL ret fr lo K as g v g' := by
  intro l D dA b sz hfl
  refine Met.ofW (cc := cc) (maxL := nL) (ret := ret) hy rfl ?_
  intro p e s m args below meth c s₁ B hml hv
  obtain ⟨rfl, ⟨hWd, hK, hsz⟩, hSF⟩ := hv
  have hts := atoms_spec (ws := ws_ y cc nL ret) B.pre
  have hX : XR ((p, l, e, _, s, m), ((as b).toArray, below, meth, c, MQ below (QR (v b) (WU D dA b K sz g') (AK b K)) (as b).toArray s 0 0 (AK b K), AK b K), (D, dA, b)) cc nL own ret ({ frames := fr, cells := 0, slots := 0, locals := lo }) K sz v g' := ⟨⟨B.exec, B.bytes, hml, by rw [← hown]; exact findClass_of_methodNamed B.named, fun w h => hts w (List.mem_cons_of_mem _ h), B.returns, B.notSynchronized, hK, rfl, hSF, AK_le, hfl⟩, rfl, rfl⟩
  have h2 := h _ sz hX (name_of_methodNamed B.named B.method).1 s.heap [] _ ⟨hWd, fun o ho => ⟨o, rfl, ho⟩, hsz, va_S.rf⟩ (lv_entry (as b) (n := nL) (hlen b))
  rw [lg_entry_eq]
  exact h2
/-- a final field, in a constructor -/
theorem V_putF {ci j N : Nat} {T : u_T} {a : Int} {w : Value} {ty : FieldType} (hX : XOK x cc nL own ret rm) (hname : x.2.1.2.2.1.name = "<init>") (hc : clT[ci]? = some (C, T, N)) (hin : ∀ w ∈ u_ws C T N, w ∈ lw_all) (ty0 : Nat → FieldType) (hty : ∀ k, k < N → parseFieldDescriptor (T k).2.2.1 = some (ty0 k)) (hnm : ∀ a, a < N → ∀ b, b < N → a ≠ b → (T a).2.1 ≠ (T b).2.1) (hci : ci < 100) (hK : K o = ci + 1) (hj : j < N) (hfin : (T j).2.2.2 = true) (hdecl : (T j).1 = own) (hd : parseFieldDescriptor (T j).2.2.1 = some ty) (hn : narrow ty w = w) (hfit : fits ty w = true) (hl : Cond.fieldLink own idx (T j).1 (T j).2.1 (T j).2.2.1 ∈ lw_all)
    (hv : fv (xb x) (sI g (100 * ci + j) o a) o ci j = w) (d : decode cc pc = .ok (.putfield idx, 3))
    (k : V x nL K ce sl sz (sI g (100 * ci + j) o a) (pc + 3) L st) : V x nL K ce sl sz g pc L (w :: .ref (xb x + o) :: st) := by
  obtain ⟨hx, hb, hml, hown, hts, hr, hlk, hKK, -⟩ := hX
  intro H locs ls hS hl'
  have hap := va_apart (own := own) hts hin ty0 hty hnm hKK hc
  obtain ⟨r, h1, cell, q1, q2, q3, q4⟩ := (hS.1 o).1 ci hci hK
  cases hc.symm.trans h1
  obtain ⟨hS2, hfc, kC, hkC, hkind⟩ := hKK.1 ci _ hc
  obtain ⟨cf, kf, fi, f, hi, hsl⟩ := hS2 j hj
  have hlay := hts _ (hin _ (u_in_lay hj))
  unfold u_lay at hlay
  rw [if_pos hfin] at hlay
  have hst := (u_facts hfc hkC (u_lays hts hin hj) hi).1
  have hcf : x.1.2.2.2.2.2.cls = cf := by
    obtain ⟨_, _, c', _, _, _, -, -, hf', -, -, -, hown2, -⟩ := Cond.laysFinal_spec hlay
    have e1 : c' = cf := by have := hi.symm.trans hf'; simp at this; exact this.1.symm
    rw [hdecl] at hown2
    rw [← e1]; exact Option.some.inj (hown.symm.trans hown2)
  have h6 := u_fits hfc hkC hkind (Or.inr hlay) hi hd hn hfit
  refine W.putFinK hx hb hown (hts _ hl) hi hst hcf hname (by rw [q2]; exact h6) q1 q3 (by rw [hsl]; exact k2_hasslot (q4 j hj)) rfl rfl d fun H' e1 e2 e3 => ?_
  rw [hsl] at e1 ⊢
  exact k H' _ ls ⟨hS.1.put hci hK hc hv ⟨_, e1, q2, q3, t_set q4 hap hj w⟩ e3, hS.2.1, e2.trans hS.2.2.1, hS.2.2.2.put e2 e3 (hS.2.1 o (by rw [hK]; omega))⟩ hl'
end ENGC
theorem V_objI {x : CT} {cc : ByteArray} {nL : Nat} {own : String} {ret : Option FieldType} {rm : Room} {K : Nat → Nat} {ce sl sz : Nat} {g : GS} {pc : Nat} {L : List (Nat × Value)} {o idx : Nat} (hX : XOK x cc nL own ret rm) (hl : Cond.methodLink own idx objectInit ∈ lw_all) (hR : 1 ≤ rm.frames ∧ 12 ≤ rm.locals) (d : decode cc pc = .ok (.invokespecial idx, 3)) (k : V x nL K ce sl sz g (pc + 3) L []) : V x nL K ce sl sz g pc L [.ref (xb x + o)] := by
  obtain ⟨hx, hb, hml, hown, hts, hr, hlk, hKK, hrm, -⟩ := hX
  intro H locs ls hS hl'
  refine W.objInit hx hb hown (hts _ hl) (hts _ q132) (hts _ q133) rfl (by rw [hml]; exact hl'.1) rfl d (by rw [hrm]; exact hR.1) (by rw [hrm]; exact hR.2) ?_
  exact k H locs ls hS hl'
def thrI (o : Nat) (g : GS) : GS := sI (sI (sI (sI g 1200 o (-1)) 1201 o (-1)) 1202 o (-1)) 1203 o (-1)
theorem thrI_eq (o : Nat) (g : GS) (a c d : Int) : sI (sI (sI (sI (sI (sI (sI g 1200 o a) 1201 o c) 1202 o d) 1201 o (-1)) 1203 o (-1)) 1200 o (-1)) 1202 o (-1) = thrI o g := by
  refine Prod.ext (funext fun f => funext fun o' => ?_) rfl
  simp only [thrI, sI]
  by_cases h : o' = o
  · subst h
    by_cases h0 : f = 1200
    · subst h0; simp
    by_cases h1 : f = 1201
    · subst h1; simp
    by_cases h2 : f = 1202
    · subst h2; simp
    by_cases h3 : f = 1203
    · subst h3; simp
    · simp [h0, h1, h2, h3]
  · simp [h]
theorem con_Throwable (K : Nat → Nat) (o : Nat) (hK : K o = 13) (g : GS) : Con yJ0_init_2 cJ0_init_2 5 none 3 60 K (fun b => [.ref (b + o), .null, .null, vI 0, vI 0]) g (fun _ => none) (thrI o g) := by
  refine Con.of RJ0 (by decide) rfl (fun b => Nat.le_of_ble_eq_true rfl) (fun x sz hX => ?_)
  have X := hX.1
  show V x 5 K 0 0 sz g 0 [(0, .ref (xb x + o)), (1, .null), (2, .null), (3, vI 0), (4, vI 0)] []
  refine V_aload_n X dJ0_init_2_0 0 rfl ?_
  refine V_objI X q744 (by decide) dJ0_init_2_1 ?_
  refine V_aload_n X dJ0_init_2_4 0 rfl ?_
  refine V_aload_n X dJ0_init_2_5 0 rfl ?_
  refine V_put (ci := 12) (N := 8) (C := RX13) (T := TX13) (o := o) (j := 0) (a := ((xb x + o : Nat) : Int)) X rfl in_X13 tyX13 tyX13_ok nmX13 (by decide) hK (by decide) rfl pfd_Thr rfl rfl q773 (by rw [fv_4 rfl, gI_sI, if_pos ⟨rfl, rfl⟩, rv_abs]) dJ0_init_2_6 ?_
  refine V_aload_n X dJ0_init_2_9 0 rfl ?_
  have hz := X.2.2.2.2.2.2.2.2.2.1.thr
  have hU : ∃ (w : Value) (a : Int), va_Z Bundle.tN "UNASSIGNED_STACK" Bundle.steD w (fun q => xb x ≤ q) x.1.2.2.2.2.1 x.1.2.2.2.2.1.heap ∧ va_rf (rvo 0 a) = w ∧ narrow (.array (.object "java/lang/StackTraceElement")) w = w ∧ fits (.array (.object "java/lang/StackTraceElement")) w = true := by
    rcases hz.1.1 with h | ⟨t, h⟩
    · exact ⟨_, -1, h, rfl, rfl, rfl⟩
    · exact ⟨_, t, h, rv_abs t, rfl, rfl⟩
  have hN : ∃ (w : Value) (a : Int), va_Z Bundle.tN "SUPPRESSED_SENTINEL" Bundle.listD w (fun q => xb x ≤ q) x.1.2.2.2.2.1 x.1.2.2.2.2.1.heap ∧ va_rf (rvo 0 a) = w ∧ narrow (.object "java/util/List") w = w ∧ fits (.object "java/util/List") w = true := by
    rcases hz.2.1 with h | ⟨t, h⟩
    · exact ⟨_, -1, h, rfl, rfl, rfl⟩
    · exact ⟨_, t, h, rv_abs t, rfl, rfl⟩
  obtain ⟨w1, a1, hw1, hr1, hn1, hf1⟩ := hU
  obtain ⟨w2, a2, hw2, hr2, hn2, hf2⟩ := hN
  refine V_gets X hw1 q745 dJ0_init_2_10 ?_
  refine V_put (ci := 12) (N := 8) (C := RX13) (T := TX13) (o := o) (j := 1) (a := a1) X rfl in_X13 tyX13 tyX13_ok nmX13 (by decide) hK (by decide) rfl pfd_Ste hn1 hf1 q774 (by rw [fv_4 rfl, gI_sI, if_pos ⟨rfl, rfl⟩, hr1]) dJ0_init_2_13 ?_
  refine V_aload_n X dJ0_init_2_16 0 rfl ?_
  refine V_gets X hw2 q747 dJ0_init_2_17 ?_
  refine V_put (ci := 12) (N := 8) (C := RX13) (T := TX13) (o := o) (j := 2) (a := a2) X rfl in_X13 tyX13 tyX13_ok nmX13 (by decide) hK (by decide) rfl pfd_Lst hn2 hf2 q775 (by rw [fv_4 rfl, gI_sI, if_pos ⟨rfl, rfl⟩, hr2]) dJ0_init_2_20 ?_
  refine V_iload X dJ0_init_2_23 4 rfl ?_
  refine V_if_eq (a := 0) (T := some ()) (F := none) (r := ()) (tgt := 36) X dJ0_init_2_25 (by decide) (if_pos (by decide)) (fun _ => ?_) (fun h => by cases h)
  refine V_aload_n X dJ0_init_2_36 0 rfl ?_
  refine V_aconst X dJ0_init_2_37 ?_
  refine V_put (ci := 12) (N := 8) (C := RX13) (T := TX13) (o := o) (j := 1) (a := -1) X rfl in_X13 tyX13 tyX13_ok nmX13 (by decide) hK (by decide) rfl pfd_Ste rfl rfl q774 (by rw [fv_4 rfl, gI_sI, if_pos ⟨rfl, rfl⟩]; rfl) dJ0_init_2_38 ?_
  refine V_aload_n X dJ0_init_2_41 0 rfl ?_
  refine V_aloadN_n X dJ0_init_2_42 1 rfl ?_
  refine V_put (ci := 12) (N := 8) (C := RX13) (T := TX13) (o := o) (j := 3) (a := -1) X rfl in_X13 tyX13 tyX13_ok nmX13 (by decide) hK (by decide) rfl pfd_Str rfl rfl q772 (by rw [fv_4 rfl, gI_sI, if_pos ⟨rfl, rfl⟩]; rfl) dJ0_init_2_43 ?_
  refine V_aload_n X dJ0_init_2_46 0 rfl ?_
  refine V_aloadN_n X dJ0_init_2_47 2 rfl ?_
  refine V_put (ci := 12) (N := 8) (C := RX13) (T := TX13) (o := o) (j := 0) (a := -1) X rfl in_X13 tyX13 tyX13_ok nmX13 (by decide) hK (by decide) rfl pfd_Thr rfl rfl q773 (by rw [fv_4 rfl, gI_sI, if_pos ⟨rfl, rfl⟩]; rfl) dJ0_init_2_48 ?_
  refine V_iload_n X dJ0_init_2_51 3 rfl ?_
  refine V_if_ne (a := 0) (T := none) (F := some ()) (r := ()) (tgt := 60) X dJ0_init_2_52 (by decide) (if_neg (by decide)) (fun h => by cases h) (fun _ => ?_)
  refine V_aload_n X dJ0_init_2_55 0 rfl ?_
  refine V_aconst X dJ0_init_2_56 ?_
  refine V_put (ci := 12) (N := 8) (C := RX13) (T := TX13) (o := o) (j := 2) (a := -1) X rfl in_X13 tyX13 tyX13_ok nmX13 (by decide) hK (by decide) rfl pfd_Lst rfl rfl q775 (by rw [fv_4 rfl, gI_sI, if_pos ⟨rfl, rfl⟩]; rfl) dJ0_init_2_57 ?_
  refine V_eq (thrI_eq o g _ _ _) ?_
  exact V_end_v hX rfl dJ0_init_2_60
theorem hdI_Throwable : yJ0_init_2.name = "<init>" ∧ yJ0_init_2.cls ≠ "java/lang/invoke/MethodHandle" ∧ yJ0_init_2.cls ≠ "java/lang/invoke/VarHandle" ∧ (parseMethodDescriptor yJ0_init_2.desc).map (fun d => d.parameters.length) = some 4 := by decide +kernel
theorem con_Exception (K : Nat → Nat) (o : Nat) (hK : K o = 13) (g : GS) : Con yJ1_init_2 cJ1_init_2 5 none 4 90 K (fun b => [.ref (b + o), .null, .null, vI 0, vI 0]) g (fun _ => none) (thrI o g) := by
  refine Con.of RJ1 (by decide) rfl (fun b => Nat.le_of_ble_eq_true rfl) (fun x sz hX => ?_)
  have X := hX.1
  show V x 5 K 0 0 sz g 0 [(0, .ref (xb x + o)), (1, .null), (2, .null), (3, vI 0), (4, vI 0)] []
  refine V_aload_n X dJ1_init_2_0 0 rfl ?_
  refine V_aloadN_n X dJ1_init_2_1 1 rfl ?_
  refine V_aloadN_n X dJ1_init_2_2 2 rfl ?_
  refine V_iload_n X dJ1_init_2_3 3 rfl ?_
  refine V_iload X dJ1_init_2_4 4 rfl ?_
  refine V_callI (As := [.null, .null, vI 0, vI 0]) (rest := []) (s1 := []) (o := o) X ((con_Throwable K o hK g).at1 sz) q938 q939 q106 q940 hdI_Throwable (by decide) rfl rfl (Nat.le_of_ble_eq_true rfl) ⟨Nat.zero_le _, Nat.zero_le _⟩ dJ1_init_2_6 rfl rfl ?_
  exact V_end_v hX rfl dJ1_init_2_9
theorem hdI_Exception : yJ1_init_2.name = "<init>" ∧ yJ1_init_2.cls ≠ "java/lang/invoke/MethodHandle" ∧ yJ1_init_2.cls ≠ "java/lang/invoke/VarHandle" ∧ (parseMethodDescriptor yJ1_init_2.desc).map (fun d => d.parameters.length) = some 4 := by decide +kernel
def wrI (o : Nat) (a c : Int) (g : GS) : GS := sI (sI (thrI o g) 1206 o a) 1207 o c
theorem con_Wrong (K : Nat → Nat) (o : Nat) (hK : K o = 13) (g : GS) (a c : Int) : Con yX13_init cX13_init 3 none 5 120 K (fun b => [.ref (b + o), vI a, vI c]) g (fun _ => none) (wrI o a c g) := by
  refine Con.ofI RX13 (by decide) rfl (fun b => Nat.le_of_ble_eq_true rfl) (fun x sz hX hnm => ?_)
  have X := hX.1
  show V x 3 K 0 0 sz g 0 [(0, .ref (xb x + o)), (1, vI a), (2, vI c)] []
  refine V_aload_n X dX13_init_0 0 rfl ?_
  refine V_aconst X dX13_init_1 ?_
  refine V_aconst X dX13_init_2 ?_
  refine V_iconst X dX13_init_3 ?_
  refine V_iconst X dX13_init_4 ?_
  refine V_callI (As := [.null, .null, vI 0, vI 0]) (rest := []) (s1 := []) (o := o) X ((con_Exception K o hK g).at1 sz) q935 q936 q107 q937 hdI_Exception (by decide) rfl rfl (Nat.le_of_ble_eq_true rfl) ⟨Nat.zero_le _, Nat.zero_le _⟩ dX13_init_5 rfl rfl ?_
  refine V_aload_n X dX13_init_8 0 rfl ?_
  refine V_iload_n X dX13_init_9 1 rfl ?_
  refine V_putF (ci := 12) (N := 8) (C := RX13) (T := TX13) (o := o) (j := 6) (a := a) X hnm rfl in_X13 tyX13 tyX13_ok nmX13 (by decide) hK (by decide) rfl rfl pfd_I rfl rfl q941 (by rw [fv_0 rfl, gI_sI, if_pos ⟨rfl, rfl⟩]) dX13_init_10 ?_
  refine V_aload_n X dX13_init_13 0 rfl ?_
  refine V_iload_n X dX13_init_14 2 rfl ?_
  refine V_putF (ci := 12) (N := 8) (C := RX13) (T := TX13) (o := o) (j := 7) (a := c) X hnm rfl in_X13 tyX13 tyX13_ok nmX13 (by decide) hK (by decide) rfl rfl pfd_I rfl rfl q943 (by rw [fv_0 rfl, gI_sI, if_pos ⟨rfl, rfl⟩]) dX13_init_15 ?_
  exact V_end_v hX rfl dX13_init_18
theorem hdI_Wrong : yX13_init.name = "<init>" ∧ yX13_init.cls ≠ "java/lang/invoke/MethodHandle" ∧ yX13_init.cls ≠ "java/lang/invoke/VarHandle" ∧ (parseMethodDescriptor yX13_init.desc).map (fun d => d.parameters.length) = some 2 := by decide +kernel
/-! well-formed kinds, and how many cells are born -/
def WFS (K : Nat → Nat) (sz : Nat) : Prop := WFK K ∧ 350 ≤ sz ∧ ∀ o, sz ≤ o → K o = 0
theorem WFS.keep {K : Nat → Nat} {sz kd o v : Nat} (h : WFS K sz) (ho : K o = v) (hv : v ≠ 0 := by decide) : ku K sz kd o = v := by
  by_cases e : o = sz
  · have := h.2.2 o (by omega)
    omega
  · rw [ku_ne e]; exact ho
theorem WFS.wk {K : Nat → Nat} {sz kd : Nat} (h : WFS K sz) (hb : blkK (kd - 1) = []) : WFK (ku K sz kd) := by
  refine ⟨fun i hi => ?_, fun o ci hc hK j hj hn => ?_⟩
  · rw [ku_ne (by have := h.2.1; omega)]
    exact h.1.1 i hi
  · by_cases e : o = sz
    · subst e
      rw [ku_self] at hK
      subst hK
      rw [Nat.add_sub_cancel] at hb
      rw [hb] at hj
      exact absurd hj (Nat.not_lt_zero _)
    · rw [ku_ne e] at hK
      exact h.keep (h.1.2 o ci hc hK j hj hn) hn
theorem WFS.up {K : Nat → Nat} {sz kd : Nat} (h : WFS K sz) (hb : blkK (kd - 1) = []) : WFS (ku K sz kd) (sz + 1) := ⟨h.wk hb, by have := h.2.1; omega, fun o ho => by rw [ku_ne (by omega)]; exact h.2.2 o (by omega)⟩
/-- the fault made is thrown -/
theorem V_throwO {x : CT} {cc : ByteArray} {nL : Nat} {own : String} {ret : Option FieldType} {K : Nat → Nat} {sz : Nat} {g : GS} {pc : Nat} {L : List (Nat × Value)} {fr lo ce sl : Nat} (hX : XT x cc nL own ret fr lo K sz 3 g) (hcc : ce ≤ 1 ∧ sl ≤ 8) (d : decode cc pc = .ok (.athrow, 1)) : V x nL (ku K sz 13) ce sl (sz + 1) g pc L [.ref (xb x + sz)] := by
  obtain ⟨hX, hQ, hA, hET⟩ := hX
  obtain ⟨hx, hb, hml, hown, hts, hr, hlk, hKK, hrm, hSF, hAb, hfl⟩ := hX
  intro H locs ls hS hl'
  obtain ⟨r, h1, cell, q1, q2, q3, q4⟩ := (hS.1 sz).1 12 (by decide) ku_self
  cases (show clT[12]? = some (RX13, TX13, 8) from rfl).symm.trans h1
  have hfc := (hKK.1 12 _ rfl).2.1
  have hS2 := hS.2.2.2
  rw [hA] at hS2
  rw [hQ]
  refine vx_athrow hx hb d ?_
  exact vx_out (E := RX13) (fun z hz => (hET z hz).elim) hlk q1 q3 (by rw [q2]; exact hfc) (fun t ht hvm => ⟨rfl, rfl, ⟨by rw [kE3, ht]; exact hS.1, va_K.moved hvm hKK, by rw [ht]; exact hS.2.2.1⟩, hS2.F ht⟩) hS2.2.2 hcc.1 hcc.2
theorem dfX13 : ∀ j, j < 8 → (lt_ 12 j).1 = 0 ∧ defaultValue (tyX13 j) = .int 0 ∨ (3 ≤ (lt_ 12 j).1 ∧ defaultValue (tyX13 j) = .null) := by
  intro j hj
  match j, hj with
  | 0, _ => exact Or.inr ⟨by decide, rfl⟩
  | 1, _ => exact Or.inr ⟨by decide, rfl⟩
  | 2, _ => exact Or.inr ⟨by decide, rfl⟩
  | 3, _ => exact Or.inr ⟨by decide, rfl⟩
  | 4, _ => exact Or.inr ⟨by decide, rfl⟩
  | 5, _ => exact Or.inl ⟨by decide, rfl⟩
  | 6, _ => exact Or.inl ⟨by decide, rfl⟩
  | 7, _ => exact Or.inl ⟨by decide, rfl⟩
