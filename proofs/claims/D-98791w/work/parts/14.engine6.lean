/-! ENGINE 6: a law's terms: calls by the kind of the cell -/
set_option maxRecDepth 100000
def yT_on : MethodName := ⟨"RainWheel$Term", "on", "(LRainWheel$Sight;)I"⟩
/-- a reference that is not null -/
def rdT (g : GS) (f o : Nat) : Option Nat := if 0 ≤ gI g f o then some (gI g f o).toNat else none
theorem rdT_some {g : GS} {f o : Nat} {α : Type} {F : Nat → Option α} {r : α} (h : (rdT g f o).bind F = some r) : ∃ i : Nat, gI g f o = i ∧ F i = some r := by
  obtain ⟨i, h1, h2⟩ := bind_some_eq h
  unfold rdT at h1
  split at h1
  · cases h1
    exact ⟨_, by omega, h2⟩
  · cases h1
def two_ (s u v : Int) : Int := if w32 s = 42 then u * v else if w32 s = 43 then u + v else if w32 s = 45 then u - v else if w32 s = 47 then (if w32 v = 0 then 0 else i_div u v) else if w32 s = 91 then imin u v else imax u v
def xTwo_F (R : Nat → Option Int) (o : Nat) (g : GS) : Option Int :=
  (rdT g 1401 o).bind fun t1 => (R t1).bind fun u => (rdT g 1402 o).bind fun t2 => (R t2).bind fun v => some (two_ (gI g 1400 o) u v)
def xTerm_R (K : Nat → Nat) (s : Nat) (g : GS) : Nat → Nat → Option Int
  | 0, _ => none
  | d + 1, t => if K t = 16 then xAmount_on t s g else if K t = 17 then xKnown_on t s g else if K t = 15 then xTwo_F (xTerm_R K s g d) t g else none
def xTerm_on (K : Nat → Nat) (t s : Nat) (g : GS) : Option Int := xTerm_R K s g 200 t
section CL5
variable {p : Program} {l : Launch} {e : Env} {R : Room} {s : State} {m : MethodId} {args : Array Value} {below : List Frame} {meth : Method} {c : Code} {H : Heap} {locs : List Loc} {cells slots : Nat} {Q : State → Prop}
variable {pc : Nat} {ls : Array Slot} {rest st0 : List Value} {a : Array Value} {A0 A1 : Nat → Prop} {H0 : Heap} {mc ms : Nat} {free : Addr → Prop} {v : Option Value} {B : State → Prop}
theorem call_QR5 (hr : va_Run5 p l e R s m args below meth c H locs cells slots mc ms (F0 m pc ls st0) rest (QR v B A1 a) free) (hS : va_S A0 H0 H locs) (hA : ∀ q, q < H.size → A1 q → A0 q) (hf : ∀ q, free q → A0 q)
    (kk : ∀ (t : State) (H1 : Heap) (locs1 : List Loc), t.heap = H1 → s.vm.Alike t.vm → B t → H.size ≤ H1.size → (∀ q : Nat, q < H.size → ¬ A1 q → H1[q]? = H[q]?) → va_S A0 H0 H1 locs1 → W p l e R s m args below meth c H1 locs1 (cells + mc) (slots + ms) Q (F0 m (pc + 5) ls (v.toList ++ rest))) : W p l e R s m args below meth c H locs cells slots Q (F0 m pc ls st0) := by
  intro T hT X
  obtain ⟨v', st₀, t, T', L, h0, X', hL, e1, e2, ⟨hv, hb, hz, hk⟩, st⟩ := hr T hT X
  cases hv
  rw [h0] at hz hk
  obtain ⟨t2, a1, b1⟩ := kk t T'.heap (locs ++ L) e1.symm (by rw [← e2]; exact X'.warmed.alike) hb (by rw [e1]; exact hz) (fun q h1 h2 => by rw [e1]; exact hk q h1 h2)
    ⟨Nat.le_trans hS.1 (by rw [e1]; exact hz), fun q h1 h2 => by rw [e1, hk q (Nat.lt_of_lt_of_le h1 hS.1) (fun z => h2 (hA q (Nat.lt_of_lt_of_le h1 hS.1) z))]; exact hS.2.1 q h1 h2, fun q hq => by
      rcases List.mem_append.mp hq with h | h
      · exact hS.2.2 q h
      · exact hf _ (hL q h)⟩ T' rfl X'
  exact ⟨t2, st t2 a1, b1⟩
end CL5
theorem V_callF {x : CT} {cc bytes : ByteArray} {nL maxL : Nat} {own C : String} {ret ret' : Option FieldType} {rm : Room} {K : Nat → Nat} {ce sl sz : Nat} {g g' : GS} {pc : Nat} {L : List (Nat × Value)} {rest As s0 s1 : List Value} {y yx : MethodName} {fr lo o idx n cnt : Nat} {as : Nat → List Value} {v : Nat → Option Value} {ci N : Nat} {T : u_T} (hX : XOK x cc nL own ret rm) (hM : Con y bytes maxL ret' fr lo K as g v g') (hg : GoodIn lw_all (va_wsF own idx C yx y (ws_ y bytes maxL ret')))
    (hF : Cond.declares yx ∈ lw_tbl ∧ Cond.interfaceMethod yx.cls yx.cls yx.name yx.desc ∈ lw_tbl ∧ Cond.publicMethod y ∈ lw_tbl ∧ Cond.unhidden C yx.name yx.desc ∈ lw_tbl ∧ Cond.castable C yx.cls ∈ lw_tbl)
    (hd : yx.cls ≠ "java/lang/invoke/MethodHandle" ∧ yx.cls ≠ "java/lang/invoke/VarHandle" ∧ (parseMethodDescriptor yx.desc).map (fun d => d.parameters.length) = some n) (hR : fr + 1 ≤ rm.frames ∧ 8 + (maxL + 11) + lo ≤ rm.locals)
    (hcl : clT[ci]? = some (C, T, N)) (hci : ci < 100) (hK : K o = ci + 1) (ha : as (xb x) = .ref (xb x + o) :: As) (hn : As.length = n) (hc : (rest.map fun v => v.category).sum ≤ 8) (hcc : ce ≤ rm.cells ∧ sl ≤ rm.slots) (d : decode cc pc = .ok (.invokeinterface idx cnt, 5))
    (h0 : s0 = As.reverse ++ .ref (xb x + o) :: rest) (h1 : (v (xb x)).toList ++ rest = s1)
    (k : V x nL K ce sl sz g' (pc + 5) L s1) : V x nL K ce sl sz g pc L s0 := by
  subst h0 h1
  obtain ⟨hx, hb, hml, hown, hts, hr, hlk, hKK, hrm, hSF, hAb, hfl⟩ := hX
  intro H locs ls hS hl'
  obtain ⟨r, h1, cell, q1, q2, q3, q4⟩ := (hS.1 o).1 ci hci hK
  cases hcl.symm.trans h1
  obtain ⟨hS2, hat⟩ := hKK.1 ci _ hcl
  have hfw : va_Fw C yx y x.1.2.2.2.2.1 := by
    obtain ⟨u0, b0, z1, z2, z3, -⟩ := hSF
    exact va_Fw.moved ⟨hd.1, hd.2.1⟩ z3.alike (va_Fw.of (z2 _ hF.1) (z2 _ hF.2.1) (z2 _ hF.2.2.1) (z2 _ hF.2.2.2.1) (z2 _ hF.2.2.2.2))
  refine call_QR5 (va_runF (As := As) (rest := rest) hat ⟨hx, hb, hml, hown, hts⟩ (hM x.1.2.1 x.2.2.1 x.2.2.2.1 (xb x) sz hfl) (va_cwF n hts hg rfl rfl rfl hfw hd (by rw [hrm]; exact hR)) ⟨WU.blind, ⟨cell, q1, by rw [q3]; rfl, by rw [q2]; exact hat.1⟩, fun U hU hW => ⟨by rw [ha], ⟨by rw [hU]; exact hS.1, va_K.moved hW.alike hKK, by rw [hU]; exact hS.2.2.1⟩, by rw [hU]; exact hSF.on hW hAb hS.2.2.2⟩⟩ rfl hn hl'.1 rfl (lv_room hc) d (by rw [hrm]; exact hcc)) hS.2.2.2 (fun q _ hq => by obtain ⟨o', e, h⟩ := hq; rw [e]; exact hS.2.1 o' h) (fun q hq => by obtain ⟨o', e, h⟩ := hq; rw [e]; exact hS.2.1 o' h) fun t H1 locs1 ht hvm hB hz hk hS1 => ?_
  rw [WU, ht] at hB
  exact k H1 locs1 ls ⟨hB.1, hS.2.1, hB.2.2, hS1⟩ hl'
theorem hdT_on : yT_on.cls ≠ "java/lang/invoke/MethodHandle" ∧ yT_on.cls ≠ "java/lang/invoke/VarHandle" ∧ (parseMethodDescriptor yT_on.desc).map (fun d => d.parameters.length) = some 1 := by decide +kernel
theorem lw_F {own : String} {idx : Nat} {C : String} {x y : MethodName} {b : ByteArray} {L : Nat} {r : Option FieldType} (h1 : Cond.methodLink own idx x ∈ lw_all) (h2 : Cond.selects C x y ∈ lw_all) (h3 : Cond.instanceMethod y ∈ lw_all) (h4 : Cond.initialized y.cls ∈ lw_all) (h5 : Cond.code y b L r ∈ lw_all) : GoodIn lw_all (va_wsF own idx C x y (ws_ y b L r)) := by
  refine lw_app ?_ (lw_meth h5)
  intro w hw
  simp only [List.mem_cons, List.not_mem_nil, or_false] at hw
  rcases hw with e | e | e | e
  · rw [e]; exact h1
  · rw [e]; exact h2
  · rw [e]; exact h3
  · rw [e]; exact h4
def ConT (K : Nat → Nat) (t s : Nat) (g : GS) (r : Int) (fr lo : Nat) : Prop :=
  (K t = 16 ∧ Con yX16_on cX16_on 2 (some .int) fr lo K (fun b => [.ref (b + t), .ref (b + s)]) g (fun _ => some (vI r)) g) ∨ (K t = 17 ∧ Con yX17_on cX17_on 2 (some .int) fr lo K (fun b => [.ref (b + t), .ref (b + s)]) g (fun _ => some (vI r)) g) ∨ (K t = 15 ∧ Con yX15_on cX15_on 4 (some .int) fr lo K (fun b => [.ref (b + t), .ref (b + s)]) g (fun _ => some (vI r)) g)
theorem V_on {x : CT} {cc : ByteArray} {nL : Nat} {own : String} {ret : Option FieldType} {rm : Room} {K : Nat → Nat} {ce sl sz : Nat} {g : GS} {pc : Nat} {L : List (Nat × Value)} {rest : List Value} {fr lo t s idx cnt : Nat} {r : Int} (hX : XOK x cc nL own ret rm) (hM : ConT K t s g r fr lo) (hl : Cond.methodLink own idx yT_on ∈ lw_all) (hR : fr + 1 ≤ rm.frames ∧ 23 + lo ≤ rm.locals) (hc : (rest.map fun v => v.category).sum ≤ 8) (hcc : ce ≤ rm.cells ∧ sl ≤ rm.slots) (d : decode cc pc = .ok (.invokeinterface idx cnt, 5)) (k : V x nL K ce sl sz g (pc + 5) L (vI r :: rest)) : V x nL K ce sl sz g pc L (.ref (xb x + s) :: .ref (xb x + t) :: rest) := by
  rcases hM with ⟨hK, hM⟩ | ⟨hK, hM⟩ | ⟨hK, hM⟩
  · exact V_callF (ci := 15) (N := 1) (T := TX16) (C := RX16) (As := [.ref (xb x + s)]) (rest := rest) (s1 := vI r :: rest) (o := t) hX hM (lw_F hl q599 q601 q120 q603) ⟨q597, q596, q602, q600, q598⟩ hdT_on ⟨hR.1, by omega⟩ rfl (by decide) hK rfl rfl hc hcc d rfl rfl k
  · exact V_callF (ci := 16) (N := 1) (T := TX17) (C := RX17) (As := [.ref (xb x + s)]) (rest := rest) (s1 := vI r :: rest) (o := t) hX hM (lw_F hl q605 q607 q121 q609) ⟨q597, q596, q608, q606, q604⟩ hdT_on ⟨hR.1, by omega⟩ rfl (by decide) hK rfl rfl hc hcc d rfl rfl k
  · exact V_callF (ci := 14) (N := 3) (T := TX15) (C := RX15) (As := [.ref (xb x + s)]) (rest := rest) (s1 := vI r :: rest) (o := t) hX hM (lw_F hl q615 q617 q119 q619) ⟨q597, q596, q618, q616, q614⟩ hdT_on ⟨hR.1, by omega⟩ rfl (by decide) hK rfl rfl hc hcc d rfl rfl k
theorem V_lsw {x : CT} {cc : ByteArray} {nL : Nat} {own : String} {ret : Option FieldType} {rm : Room} {K : Nat → Nat} {ce sl sz : Nat} {g : GS} {pc : Nat} {L : List (Nat × Value)} {st : List Value} {dflt : Int} {ps : Array (Int × Int)} {len : Nat} {a off : Int} {tgt : Nat} (hX : XOK x cc nL own ret rm) (d : decode cc pc = .ok (.lookupswitch dflt ps, len)) (hp : (ps.toList.zip (ps.toList.drop 1)).all (fun (a, next) => a.1 < next.1) = true) (ho : Op.lookupswitch.offset ps.toList dflt (w32 a) = off) (ht : (pc : Int) + off = (tgt : Int)) (k : V x nL K ce sl sz g tgt L st) : V x nL K ce sl sz g pc L (vI a :: st) := by
  obtain ⟨hx, hb, -⟩ := hX
  exact fun H locs ls hS hl => lv_lookup hx hb d hp ho ht (k H locs ls hS hl)

theorem V_ifnonnullN {x : CT} {cc : ByteArray} {nL : Nat} {own : String} {ret : Option FieldType} {rm : Room} {K : Nat → Nat} {ce sl sz : Nat} {g : GS} {pc : Nat} {L : List (Nat × Value)} {st : List Value} {off : Int} (hX : XOK x cc nL own ret rm) (d : decode cc pc = .ok (.ifnonnull off, 3)) (k : V x nL K ce sl sz g (pc + 3) L st) : V x nL K ce sl sz g pc L (.null :: st) := by
  obtain ⟨hx, hb, -⟩ := hX
  exact fun H locs ls hS hl => lv_ifnonnullN hx hb d (k H locs ls hS hl)
theorem fv_3n {b : Nat} {g : GS} {o ci j : Nat} (h : (lt_ ci j).1 = 3) (e : gI g (100 * ci + j) o < 0) : fv b g o ci j = .null := by
  rw [fv_3 h]
  unfold rvo
  rw [if_pos (by omega)]
  rfl
theorem V_lsw5 {x : CT} {cc : ByteArray} {nL : Nat} {own : String} {ret : Option FieldType} {rm : Room} {K : Nat → Nat} {ce sl sz : Nat} {g : GS} {L : List (Nat × Value)} {a : Int} (hX : XOK x cc nL own ret rm) (d : decode cc 26 = .ok (.lookupswitch 80 #[(42, 58), (43, 50), (45, 54), (47, 62), (91, 74)], 50)) (k1 : w32 a = 42 → V x nL K ce sl sz g 84 L []) (k2 : w32 a = 43 → V x nL K ce sl sz g 76 L []) (k3 : w32 a = 45 → V x nL K ce sl sz g 80 L []) (k4 : w32 a = 47 → V x nL K ce sl sz g 88 L []) (k5 : w32 a = 91 → V x nL K ce sl sz g 100 L [])
    (k6 : w32 a ≠ 42 → w32 a ≠ 43 → w32 a ≠ 45 → w32 a ≠ 47 → w32 a ≠ 91 → V x nL K ce sl sz g 106 L []) : V x nL K ce sl sz g 26 L [vI a] := by
  by_cases e1 : w32 a = 42
  · exact V_lsw hX d (by decide) (by rw [e1]) (by decide) (k1 e1)
  by_cases e2 : w32 a = 43
  · exact V_lsw hX d (by decide) (by rw [e2]) (by decide) (k2 e2)
  by_cases e3 : w32 a = 45
  · exact V_lsw hX d (by decide) (by rw [e3]) (by decide) (k3 e3)
  by_cases e4 : w32 a = 47
  · exact V_lsw hX d (by decide) (by rw [e4]) (by decide) (k4 e4)
  by_cases e5 : w32 a = 91
  · exact V_lsw hX d (by decide) (by rw [e5]) (by decide) (k5 e5)
  · refine V_lsw (off := 80) hX d (by decide) ?_ (by decide) (k6 e1 e2 e3 e4 e5)
    simp only [Op.lookupswitch.offset_cons, Op.lookupswitch.offset_nil]
    rw [if_neg (fun h => e1 h.symm), if_neg (fun h => e2 h.symm), if_neg (fun h => e3 h.symm), if_neg (fun h => e4 h.symm), if_neg (fun h => e5 h.symm)]
theorem con_xTwo_F (K : Nat → Nat) (R : Nat → Option Int) (s : Nat) (g : GS) (fr lo : Nat) (H : ∀ (t : Nat) (r : Int), R t = some r → ConT K t s g r fr lo) (o : Nat) (hK0 : K o = 15) (r : Int) (h : xTwo_F R o g = some r) : Con yX15_on cX15_on 4 (some .int) (fr + 1) (lo + 24) K (fun b => [.ref (b + o), .ref (b + s)]) g (fun _ => some (vI r)) g := by
  refine Con.of RX15 (by decide) rfl (fun b => Nat.le_of_ble_eq_true rfl) (fun x sz hX => ?_)
  have X := hX.1
  unfold xTwo_F at h
  show V x 4 K 0 0 sz g 0 [(0, .ref (xb x + o)), (1, .ref (xb x + s))] []
  refine V_aload_n X dX15_on_0 0 rfl ?_
  obtain ⟨i1, hv1, h⟩ := rdT_some h
  refine V_get (ci := 14) (N := 3) (C := RX15) (T := TX15) (o := o) (j := 1) X rfl in_X15 (by decide) hK0 (by decide) q1054 (fv_3i rfl hv1) dX15_on_1 ?_
  refine V_aload_n X dX15_on_4 1 rfl ?_
  obtain ⟨u, hu, h⟩ := bind_some_eq h
  refine V_on X (H i1 u hu) q621 ⟨by dsimp only; omega, by dsimp only; omega⟩ (Nat.le_of_ble_eq_true rfl) ⟨Nat.zero_le _, Nat.zero_le _⟩ dX15_on_5 ?_
  refine V_istore_n X dX15_on_10 (by decide) (L' := [(2, vI u), (0, .ref (xb x + o)), (1, .ref (xb x + s))]) rfl ?_
  refine V_aload_n X dX15_on_11 1 rfl ?_
  obtain ⟨i2, hv2, h⟩ := rdT_some h
  refine V_get (ci := 14) (N := 3) (C := RX15) (T := TX15) (o := o) (j := 2) X rfl in_X15 (by decide) hK0 (by decide) q1055 (fv_3i rfl hv2) dX15_on_12 ?_
  refine V_aload_n X dX15_on_15 2 rfl ?_
  obtain ⟨v, hv, h⟩ := bind_some_eq h
  refine V_on X (H i2 v hv) q621 ⟨by dsimp only; omega, by dsimp only; omega⟩ (Nat.le_of_ble_eq_true rfl) ⟨Nat.zero_le _, Nat.zero_le _⟩ dX15_on_16 ?_
  refine V_istore_n X dX15_on_21 (by decide) (L' := [(3, vI v), (2, vI u), (0, .ref (xb x + o)), (1, .ref (xb x + s))]) rfl ?_
  refine V_aload_n X dX15_on_22 2 rfl ?_
  refine V_get (ci := 14) (N := 3) (C := RX15) (T := TX15) (o := o) (j := 0) X rfl in_X15 (by decide) hK0 (by decide) q1053 (fv_0 rfl) dX15_on_23 ?_
  have hr := Option.some.inj h
  subst hr
  unfold two_ at hX
  refine V_lsw5 X dX15_on_26 (fun e => ?_) (fun e => ?_) (fun e => ?_) (fun e => ?_) (fun e => ?_) (fun e1 e2 e3 e4 e5 => ?_)
  · have e : w32 (gI g 1400 o) = 42 := e
    rw [if_pos e] at hX
    refine V_iload_n X dX15_on_84 1 rfl ?_
    refine V_iload_n X dX15_on_85 0 rfl ?_
    refine V_imul X dX15_on_86 ?_
    exact V_end_i hX rfl dX15_on_87
  · have e : w32 (gI g 1400 o) = 43 := e
    rw [if_neg (show ¬ (w32 (gI g 1400 o) = 42) by omega), if_pos e] at hX
    refine V_iload_n X dX15_on_76 1 rfl ?_
    refine V_iload_n X dX15_on_77 0 rfl ?_
    refine V_iadd X dX15_on_78 ?_
    exact V_end_i hX rfl dX15_on_79
  · have e : w32 (gI g 1400 o) = 45 := e
    rw [if_neg (show ¬ (w32 (gI g 1400 o) = 42) by omega), if_neg (show ¬ (w32 (gI g 1400 o) = 43) by omega), if_pos e] at hX
    refine V_iload_n X dX15_on_80 1 rfl ?_
    refine V_iload_n X dX15_on_81 0 rfl ?_
    refine V_isub X dX15_on_82 ?_
    exact V_end_i hX rfl dX15_on_83
  · have e : w32 (gI g 1400 o) = 47 := e
    rw [if_neg (show ¬ (w32 (gI g 1400 o) = 42) by omega), if_neg (show ¬ (w32 (gI g 1400 o) = 43) by omega), if_neg (show ¬ (w32 (gI g 1400 o) = 45) by omega), if_pos e] at hX
    refine V_iload_n X dX15_on_88 0 rfl ?_
    by_cases e0 : w32 v = 0
    · rw [if_pos e0] at hX
      refine V_if_ne (a := v) (T := none) (F := some ()) (r := ()) (tgt := 96) X dX15_on_89 (by decide) (if_neg (fun q => q e0)) (fun h => by cases h) (fun _ => ?_)
      refine V_iconst X dX15_on_92 ?_
      refine V_goto (tgt := 99) X dX15_on_93 (by decide) ?_
      exact V_end_i hX rfl dX15_on_99
    · rw [if_neg e0] at hX
      refine V_if_ne (a := v) (T := some ()) (F := none) (r := ()) (tgt := 96) X dX15_on_89 (by decide) (if_pos e0) (fun _ => ?_) (fun h => by cases h)
      refine V_iload_n X dX15_on_96 1 rfl ?_
      refine V_iload_n X dX15_on_97 0 rfl ?_
      refine V_idivK X dX15_on_98 e0 ?_
      exact V_end_i hX rfl dX15_on_99
  · have e : w32 (gI g 1400 o) = 91 := e
    rw [if_neg (show ¬ (w32 (gI g 1400 o) = 42) by omega), if_neg (show ¬ (w32 (gI g 1400 o) = 43) by omega), if_neg (show ¬ (w32 (gI g 1400 o) = 45) by omega), if_neg (show ¬ (w32 (gI g 1400 o) = 47) by omega), if_pos e] at hX
    refine V_iload_n X dX15_on_100 1 rfl ?_
    refine V_iload_n X dX15_on_101 0 rfl ?_
    refine V_min X q622 ⟨by dsimp only; omega, by dsimp only; omega⟩ (Nat.le_of_ble_eq_true rfl) ⟨Nat.zero_le _, Nat.zero_le _⟩ dX15_on_102 ?_
    exact V_end_i hX rfl dX15_on_105
  · have e1 : ¬ w32 (gI g 1400 o) = 42 := e1
    have e2 : ¬ w32 (gI g 1400 o) = 43 := e2
    have e3 : ¬ w32 (gI g 1400 o) = 45 := e3
    have e4 : ¬ w32 (gI g 1400 o) = 47 := e4
    have e5 : ¬ w32 (gI g 1400 o) = 91 := e5
    rw [if_neg e1, if_neg e2, if_neg e3, if_neg e4, if_neg e5] at hX
    refine V_iload_n X dX15_on_106 1 rfl ?_
    refine V_iload_n X dX15_on_107 0 rfl ?_
    refine V_max X q625 ⟨by dsimp only; omega, by dsimp only; omega⟩ (Nat.le_of_ble_eq_true rfl) ⟨Nat.zero_le _, Nat.zero_le _⟩ dX15_on_108 ?_
    exact V_end_i hX rfl dX15_on_111
theorem con_xTerm_R (K : Nat → Nat) (hW : WFK K) (s : Nat) (hKs : K s = 5) (g : GS) : ∀ (d t : Nat) (r : Int), xTerm_R K s g d t = some r → ConT K t s g r (d + 4) (d * 24 + 80) := by
  intro d
  induction d with
  | zero => intro t r h; cases h
  | succ d ih =>
    intro t r h
    unfold xTerm_R at h
    by_cases e1 : K t = 16
    · rw [if_pos e1] at h
      exact Or.inl ⟨e1, (con_xAmount_on K hW t e1 s hKs g r h).mono (by omega) (by omega)⟩
    rw [if_neg e1] at h
    by_cases e2 : K t = 17
    · rw [if_pos e2] at h
      exact Or.inr (Or.inl ⟨e2, (con_xKnown_on K hW t e2 s hKs g r h).mono (by omega) (by omega)⟩)
    rw [if_neg e2] at h
    by_cases e3 : K t = 15
    · rw [if_pos e3] at h
      exact Or.inr (Or.inr ⟨e3, (con_xTwo_F K (xTerm_R K s g d) s g (d + 4) (d * 24 + 80) ih t e3 r h).mono (by omega) (by omega)⟩)
    · rw [if_neg e3] at h
      cases h
def xLaw_lasts0 (K : Nat → Nat) (l1 : Nat) (g : GS) : Option Int :=
  if gI g 100 2 < 0 then some (imax 1 (imin 99 (gI g 400 l1))) else (rdT g 100 2).bind fun t => (xTerm_on K t l1 g).bind fun v => some (imax 1 (imin 99 v))
theorem con_xLaw_lasts0 (K : Nat → Nat) (hW : WFK K) (l1 : Nat) (hK1 : K l1 = 5) (g : GS) (r : Int) (h : xLaw_lasts0 K l1 g = some r) : Con yX2_lasts cX2_lasts 2 (some .int) 206 4920 K (fun b => [.ref (b + 2), .ref (b + l1)]) g (fun _ => some (vI r)) g := by
  refine Con.of RX2 (by decide) rfl (fun b => Nat.le_of_ble_eq_true rfl) (fun x sz hX => ?_)
  have X := hX.1
  unfold xLaw_lasts0 at h
  show V x 2 K 0 0 sz g 0 [(0, .ref (xb x + 2)), (1, .ref (xb x + l1))] []
  refine V_iconst X dX2_lasts_0 ?_
  refine V_bipush X dX2_lasts_1 (by decide) ?_
  refine V_aload_n X dX2_lasts_3 0 rfl ?_
  by_cases e : gI g 100 2 < 0
  · rw [if_pos e] at h
    have hr := Option.some.inj h
    subst hr
    refine V_get (ci := 1) (N := 1) (C := RX2) (T := TX2) (o := 2) (j := 0) X rfl in_X2 (by decide) (hW.at 2 rfl) (by decide) q140 (fv_3n rfl e) dX2_lasts_4 ?_
    refine V_ifnonnullN X dX2_lasts_7 ?_
    refine V_aload_n X dX2_lasts_10 1 rfl ?_
    refine V_getN (ci := 4) (N := 6) (C := RX5) (T := TX5) (o := l1) (j := 0) X rfl in_X5 (by decide) hK1 (by decide) q185 (fv_0 rfl) dX2_lasts_11 ?_
    refine V_goto (tgt := 27) X dX2_lasts_14 (by decide) ?_
    refine V_min X q626 (by decide) (Nat.le_of_ble_eq_true rfl) ⟨Nat.zero_le _, Nat.zero_le _⟩ dX2_lasts_27 ?_
    refine V_max X q627 (by decide) (Nat.le_of_ble_eq_true rfl) ⟨Nat.zero_le _, Nat.zero_le _⟩ dX2_lasts_30 ?_
    exact V_end_i hX rfl dX2_lasts_33
  · rw [if_neg e] at h
    obtain ⟨t, ht, h⟩ := rdT_some h
    obtain ⟨v, hv, h⟩ := bind_some_eq h
    have hr := Option.some.inj h
    subst hr
    refine V_get (ci := 1) (N := 1) (C := RX2) (T := TX2) (o := 2) (j := 0) X rfl in_X2 (by decide) (hW.at 2 rfl) (by decide) q140 (fv_3i rfl ht) dX2_lasts_4 ?_
    refine V_ifnonnull (tgt := 17) X dX2_lasts_7 (by decide) ?_
    refine V_aload_n X dX2_lasts_17 0 rfl ?_
    refine V_get (ci := 1) (N := 1) (C := RX2) (T := TX2) (o := 2) (j := 0) X rfl in_X2 (by decide) (hW.at 2 rfl) (by decide) q140 (fv_3i rfl ht) dX2_lasts_18 ?_
    refine V_aload_n X dX2_lasts_21 1 rfl ?_
    refine V_on X (con_xTerm_R K hW l1 hK1 g 200 t v hv) q595 (by decide) (Nat.le_of_ble_eq_true rfl) ⟨Nat.zero_le _, Nat.zero_le _⟩ dX2_lasts_22 ?_
    refine V_min X q626 (by decide) (Nat.le_of_ble_eq_true rfl) ⟨Nat.zero_le _, Nat.zero_le _⟩ dX2_lasts_27 ?_
    refine V_max X q627 (by decide) (Nat.le_of_ble_eq_true rfl) ⟨Nat.zero_le _, Nat.zero_le _⟩ dX2_lasts_30 ?_
    exact V_end_i hX rfl dX2_lasts_33
def xLaw_lasts (K : Nat → Nat) (l1 : Nat) (g : GS) : Option Int := (xLaw_lasts0 K l1 g).bind fun v => some (w32 v)
theorem con_xLaw_lasts (K : Nat → Nat) (hW : WFK K) (l1 : Nat) (hK1 : K l1 = 5) (g : GS) (r : Int) (h : xLaw_lasts K l1 g = some r) : Con yX2_lasts cX2_lasts 2 (some .int) 206 4920 K (fun b => [.ref (b + 2), .ref (b + l1)]) g (fun _ => some (vI r)) g := by
  obtain ⟨v, hv, h⟩ := bind_some_eq h
  have hr := Option.some.inj h
  subst hr
  rw [show vI (w32 v) = vI v from congrArg Value.int (w32_eqv v)]
  exact con_xLaw_lasts0 K hW l1 hK1 g v hv
