/-! ENGINE 16: the law's body: the two worlds -/
set_option maxRecDepth 100000
def WM (x : CT) (gm : GS) (H : Heap) : Prop := Wd x.2.2.1 x.2.2.2.1 (xb x + 350) Km gm H
/-- the law goes on well from pc -/
def VM (x : CT) (nL : Nat) (K : Nat → Nat) (z : Nat) (g gm : GS) (pc : Nat) (L : List (Nat × Value)) (st : List Value) : Prop :=
  ∀ (H : Heap) (locs : List Loc) (ls : Array Slot), WS x K z g H locs → WM x gm H → lv_has ls nL L →
    W x.1.1 x.1.2.1 x.1.2.2.1 x.1.2.2.2.1 x.1.2.2.2.2.1 x.1.2.2.2.2.2 x.2.1.1 x.2.1.2.1 x.2.1.2.2.1 x.2.1.2.2.2.1 H locs z (600 * z) x.2.1.2.2.2.2.1 (F0 x.1.2.2.2.2.2 pc ls st)
/-- the kinds in the law's run -/
def KI (K : Nat → Nat) (z : Nat) : Prop := WFS K z ∧ z ≤ MX ∧ 394 ≤ z ∧ K 393 = 40001 ∧ ∀ o, 350 ≤ o → o < 393 → K o = 0
theorem KI.ks {K : Nat → Nat} {z : Nat} (h : KI K z) : KS true K z K z := KS.rf h.1 h.2.1
theorem KI.on {K K' : Nat → Nat} {z z' : Nat} (h : KI K z) (h1 : KS true K z K' z') : KI K' z' := ⟨h1.2.2.2.2 rfl, h1.2.1, by have := h1.1; have := h.2.2.1; omega, by rw [h1.2.2.2.1 _ (by have := h.2.2.1; omega)]; exact h.2.2.2.1, fun o h2 h3 => by rw [h1.2.2.2.1 _ (by have := h.2.2.1; omega)]; exact h.2.2.2.2 o h2 h3⟩
theorem Km_lt {o : Nat} (h : Km o ≠ 0) : o < 43 := by
  refine Nat.not_le.mp fun q => h ?_
  show kmL.getD o 0 = 0
  rw [List.getD_eq_getElem?_getD, List.getElem?_eq_none (by show 43 ≤ o; omega)]
  rfl
/-- what the law's start is -/
def XM_ (x : CT) (cc : ByteArray) (nL : Nat) (own : String) (ret : Option FieldType) (b0 Ls : Nat) (xs : Nat → Int32) : Prop :=
  XOK x cc nL own ret room_1 ∧ (∀ q, xb x ≤ q → x.2.1.2.2.2.2.2 q) ∧ va_X b0 Ls xs x.1.2.2.2.2.1 x.1.2.2.2.2.1.heap ∧ b0 < x.1.2.2.2.2.1.heap.size ∧ x.1.2.2.2.2.1.heap.size ≤ xb x ∧ Ls ≤ 448
section ENGVM
variable {x : CT} {cc bytes : ByteArray} {nL maxL : Nat} {own C : String} {ret ret' : Option FieldType} {rm : Room} {K K' : Nat → Nat} {sz z : Nat} {g g' gm gm' : GS} {pc : Nat} {L L' : List (Nat × Value)} {st rest As s0 s1 : List Value} {y : MethodName} {fr lo o idx n b0 Ls : Nat} {xs : Nat → Int32} {as : Nat → List Value} {β : Type} {v : β → (Nat → Option Value) × S3} {hy : List (Nat × Nat × Nat × Nat)}
theorem VM_iconst (hX : XOK x cc nL own ret rm) {n : Int} (d : decode cc pc = .ok (.iconst n, 1)) (k : VM x nL K sz g gm (pc + 1) L (vI n :: st)) : VM x nL K sz g gm pc L st := by
  obtain ⟨hx, hb, -⟩ := hX
  exact fun H locs ls hS hM hl => lv_iconst hx hb d rfl (k H locs ls hS hM hl)
theorem VM_bipush (hX : XOK x cc nL own ret rm) {n : Int} (d : decode cc pc = .ok (.bipush n, 2)) (hn : (Int8.ofInt n).toInt32 = Int32.ofInt n) (k : VM x nL K sz g gm (pc + 2) L (vI n :: st)) : VM x nL K sz g gm pc L st := by
  obtain ⟨hx, hb, -⟩ := hX
  exact fun H locs ls hS hM hl => lv_bipush hx hb d hn (k H locs ls hS hM hl)
theorem VM_iload_n (hX : XOK x cc nL own ret rm) {i : Fin 4} {a : Int} (d : decode cc pc = .ok (.iload_n i, 1)) (q : Nat) (hL : L[q]? = some ((i : Nat), vI a)) (k : VM x nL K sz g gm (pc + 1) L (vI a :: st)) : VM x nL K sz g gm pc L st := by
  obtain ⟨hx, hb, -⟩ := hX
  exact fun H locs ls hS hM hl => lv_iload_n hx hb d rfl (lv_at hl q hL) (k H locs ls hS hM hl)
theorem VM_iload (hX : XOK x cc nL own ret rm) {i : Nat} {a : Int} (d : decode cc pc = .ok (.iload i, 2)) (q : Nat) (hL : L[q]? = some (i, vI a)) (k : VM x nL K sz g gm (pc + 2) L (vI a :: st)) : VM x nL K sz g gm pc L st := by
  obtain ⟨hx, hb, -⟩ := hX
  exact fun H locs ls hS hM hl => lv_iload hx hb d (lv_at hl q hL) (k H locs ls hS hM hl)
theorem VM_lload_n (hX : XOK x cc nL own ret rm) {i : Fin 4} {a : Int} (d : decode cc pc = .ok (.lload_n i, 1)) (q : Nat) (hL : L[q]? = some ((i : Nat), vL a)) (k : VM x nL K sz g gm (pc + 1) L (vL a :: st)) : VM x nL K sz g gm pc L st := by
  obtain ⟨hx, hb, -⟩ := hX
  exact fun H locs ls hS hM hl => lv_lload_n hx hb d rfl (lv_at hl q hL) (k H locs ls hS hM hl)
theorem VM_lload (hX : XOK x cc nL own ret rm) {i : Nat} {a : Int} (d : decode cc pc = .ok (.lload i, 2)) (q : Nat) (hL : L[q]? = some (i, vL a)) (k : VM x nL K sz g gm (pc + 2) L (vL a :: st)) : VM x nL K sz g gm pc L st := by
  obtain ⟨hx, hb, -⟩ := hX
  exact fun H locs ls hS hM hl => lv_lload hx hb d (lv_at hl q hL) (k H locs ls hS hM hl)
theorem VM_aload_n (hX : XOK x cc nL own ret rm) {i : Fin 4} {a : Nat} (d : decode cc pc = .ok (.aload_n i, 1)) (q : Nat) (hL : L[q]? = some ((i : Nat), .ref a)) (k : VM x nL K sz g gm (pc + 1) L (.ref a :: st)) : VM x nL K sz g gm pc L st := by
  obtain ⟨hx, hb, -⟩ := hX
  exact fun H locs ls hS hM hl => lv_aload_n hx hb d rfl (lv_at hl q hL) (k H locs ls hS hM hl)
theorem VM_aload (hX : XOK x cc nL own ret rm) {i : Nat} {a : Nat} (d : decode cc pc = .ok (.aload i, 2)) (q : Nat) (hL : L[q]? = some (i, .ref a)) (k : VM x nL K sz g gm (pc + 2) L (.ref a :: st)) : VM x nL K sz g gm pc L st := by
  obtain ⟨hx, hb, -⟩ := hX
  exact fun H locs ls hS hM hl => lv_aload hx hb d (lv_at hl q hL) (k H locs ls hS hM hl)
theorem VM_istore_n (hX : XOK x cc nL own ret rm) {i : Fin 4} {a : Int} (d : decode cc pc = .ok (.istore_n i, 1)) (hi : (i : Nat) < nL) (hL : st1 i (vI a) L = L') (k : VM x nL K sz g gm (pc + 1) L' st) : VM x nL K sz g gm pc L (vI a :: st) := by
  obtain ⟨hx, hb, -⟩ := hX
  exact fun H locs ls hS hM hl => lv_istore_n hx hb d rfl hl hi hL (fun ls' hl' => k H locs ls' hS hM hl')
theorem VM_istore (hX : XOK x cc nL own ret rm) {i : Nat} {a : Int} (d : decode cc pc = .ok (.istore i, 2)) (hi : i < nL) (hL : st1 i (vI a) L = L') (k : VM x nL K sz g gm (pc + 2) L' st) : VM x nL K sz g gm pc L (vI a :: st) := by
  obtain ⟨hx, hb, -⟩ := hX
  exact fun H locs ls hS hM hl => lv_istore hx hb d hl hi hL (fun ls' hl' => k H locs ls' hS hM hl')
theorem VM_lstore_n (hX : XOK x cc nL own ret rm) {i : Fin 4} {a : Int} (d : decode cc pc = .ok (.lstore_n i, 1)) (hi : (i : Nat) + 1 < nL) (hL : st2 i (vL a) L = L') (k : VM x nL K sz g gm (pc + 1) L' st) : VM x nL K sz g gm pc L (vL a :: st) := by
  obtain ⟨hx, hb, -⟩ := hX
  exact fun H locs ls hS hM hl => lv_lstore_n hx hb d rfl hl hi hL (fun ls' hl' => k H locs ls' hS hM hl')
theorem VM_lstore (hX : XOK x cc nL own ret rm) {i : Nat} {a : Int} (d : decode cc pc = .ok (.lstore i, 2)) (hi : i + 1 < nL) (hL : st2 i (vL a) L = L') (k : VM x nL K sz g gm (pc + 2) L' st) : VM x nL K sz g gm pc L (vL a :: st) := by
  obtain ⟨hx, hb, -⟩ := hX
  exact fun H locs ls hS hM hl => lv_lstore hx hb d hl hi hL (fun ls' hl' => k H locs ls' hS hM hl')
theorem VM_astore_n (hX : XOK x cc nL own ret rm) {i : Fin 4} {a : Nat} (d : decode cc pc = .ok (.astore_n i, 1)) (hi : (i : Nat) < nL) (hL : st1 i (.ref a) L = L') (k : VM x nL K sz g gm (pc + 1) L' st) : VM x nL K sz g gm pc L (.ref a :: st) := by
  obtain ⟨hx, hb, -⟩ := hX
  exact fun H locs ls hS hM hl => lv_astore_n hx hb d rfl hl hi hL (fun ls' hl' => k H locs ls' hS hM hl')
theorem VM_astore (hX : XOK x cc nL own ret rm) {i : Nat} {a : Nat} (d : decode cc pc = .ok (.astore i, 2)) (hi : i < nL) (hL : st1 i (.ref a) L = L') (k : VM x nL K sz g gm (pc + 2) L' st) : VM x nL K sz g gm pc L (.ref a :: st) := by
  obtain ⟨hx, hb, -⟩ := hX
  exact fun H locs ls hS hM hl => lv_astore hx hb d hl hi hL (fun ls' hl' => k H locs ls' hS hM hl')
theorem VM_iinc (hX : XOK x cc nL own ret rm) {i : Nat} {n a : Int} (d : decode cc pc = .ok (.iinc i n, 3)) (q : Nat) (hq : L[q]? = some (i, vI a)) (hi : i < nL) (hL : st1 i (vI (a + n)) L = L') (k : VM x nL K sz g gm (pc + 3) L' st) : VM x nL K sz g gm pc L st := by
  obtain ⟨hx, hb, -⟩ := hX
  exact fun H locs ls hS hM hl => lv_iinc hx hb d hl (k := q) hq (Int32.ofInt_add a n).symm hi hL (fun ls' hl' => k H locs ls' hS hM hl')
theorem VM_iadd (hX : XOK x cc nL own ret rm) {a b : Int} (d : decode cc pc = .ok (.iadd, 1)) (k : VM x nL K sz g gm (pc + 1) L (vI (a + b) :: st)) : VM x nL K sz g gm pc L (vI b :: vI a :: st) := by
  obtain ⟨hx, hb, -⟩ := hX
  exact fun H locs ls hS hM hl => lv_iadd hx hb d (by rw [← Int32.ofInt_add]; exact k H locs ls hS hM hl)
theorem VM_isub (hX : XOK x cc nL own ret rm) {a b : Int} (d : decode cc pc = .ok (.isub, 1)) (k : VM x nL K sz g gm (pc + 1) L (vI (a - b) :: st)) : VM x nL K sz g gm pc L (vI b :: vI a :: st) := by
  obtain ⟨hx, hb, -⟩ := hX
  exact fun H locs ls hS hM hl => lv_isub hx hb d (by rw [← Int32.ofInt_sub]; exact k H locs ls hS hM hl)
theorem VM_iand (hX : XOK x cc nL own ret rm) {a b : Int} (d : decode cc pc = .ok (.iand, 1)) (k : VM x nL K sz g gm (pc + 1) L (vI (i_and a b) :: st)) : VM x nL K sz g gm pc L (vI b :: vI a :: st) := by
  obtain ⟨hx, hb, -⟩ := hX
  exact fun H locs ls hS hM hl => lv_iand hx hb d (by have h := k H locs ls hS hM hl; rwa [show vI (i_and a b) = .int (Int32.ofInt a &&& Int32.ofInt b) from congrArg Value.int (Int32.ofInt_toInt _)] at h)
theorem VM_i2l (hX : XOK x cc nL own ret rm) {a : Int} (d : decode cc pc = .ok (.i2l, 1)) (k : VM x nL K sz g gm (pc + 1) L (vL (w32 a) :: st)) : VM x nL K sz g gm pc L (vI a :: st) := by
  obtain ⟨hx, hb, -⟩ := hX
  exact fun H locs ls hS hM hl => lv_i2l hx hb d (Int64.ofInt_int32ToInt _).symm (k H locs ls hS hM hl)
theorem VM_lcmp (hX : XOK x cc nL own ret rm) {a b : Int} (d : decode cc pc = .ok (.lcmp, 1)) (k : VM x nL K sz g gm (pc + 1) L (vI (l_cmp a b) :: st)) : VM x nL K sz g gm pc L (vL b :: vL a :: st) := by
  obtain ⟨hx, hb, -⟩ := hX
  exact fun H locs ls hS hM hl => W.lcmp hx hb d (by rw [lgc_eq]; exact k H locs ls hS hM hl)
theorem VM_lconst (hX : XOK x cc nL own ret rm) {n : Fin 2} {a : Int} (d : decode cc pc = .ok (.lconst n, 1)) (ha : Int64.ofNat (n : Nat) = Int64.ofInt a) (k : VM x nL K sz g gm (pc + 1) L (vL a :: st)) : VM x nL K sz g gm pc L st := by
  obtain ⟨hx, hb, -⟩ := hX
  exact fun H locs ls hS hM hl => lv_lconst hx hb d ha (k H locs ls hS hM hl)
theorem VM_goto (hX : XOK x cc nL own ret rm) {off : Int} {tgt : Nat} (d : decode cc pc = .ok (.goto off, 3)) (ht : (pc : Int) + off = (tgt : Int)) (k : VM x nL K sz g gm tgt L st) : VM x nL K sz g gm pc L st := by
  obtain ⟨hx, hb, -⟩ := hX
  exact fun H locs ls hS hM hl => lv_goto hx hb d ht (k H locs ls hS hM hl)
theorem VM_icmp_eq {α : Type} {T F : Option α} {r : α} (hX : XOK x cc nL own ret rm) {a b : Int} {off : Int} {tgt : Nat} (d : decode cc pc = .ok (.if_icmp .eq off, 3)) (ht : (pc : Int) + off = (tgt : Int)) (h : (if w32 a = w32 b then T else F) = some r) (t : T = some r → VM x nL K sz g gm tgt L st) (f : F = some r → VM x nL K sz g gm (pc + 3) L st) : VM x nL K sz g gm pc L (vI b :: vI a :: st) := by
  obtain ⟨hx, hb, -⟩ := hX
  have q := br_ite h (eq_iff32 (a := a) (b := b)).mp (fun z y => z ((eq_iff32 (a := a) (b := b)).mpr y)) t f
  exact fun H locs ls hS hM hl => lv_icmp_eq hx hb d ht (fun z => q.1 z H locs ls hS hM hl) (fun z => q.2 z H locs ls hS hM hl)
theorem VM_icmp_gt {α : Type} {T F : Option α} {r : α} (hX : XOK x cc nL own ret rm) {a b : Int} {off : Int} {tgt : Nat} (d : decode cc pc = .ok (.if_icmp .gt off, 3)) (ht : (pc : Int) + off = (tgt : Int)) (h : (if w32 b < w32 a then T else F) = some r) (t : T = some r → VM x nL K sz g gm tgt L st) (f : F = some r → VM x nL K sz g gm (pc + 3) L st) : VM x nL K sz g gm pc L (vI b :: vI a :: st) := by
  obtain ⟨hx, hb, -⟩ := hX
  have q := br_ite h (lt_iff32 (a := b) (b := a)).mp (fun z y => z ((lt_iff32 (a := b) (b := a)).mpr y)) t f
  exact fun H locs ls hS hM hl => lv_icmp_gt hx hb d ht (fun z => q.1 z H locs ls hS hM hl) (fun z => q.2 z H locs ls hS hM hl)
theorem VM_if_eq {α : Type} {T F : Option α} {r : α} (hX : XOK x cc nL own ret rm) {a : Int} {off : Int} {tgt : Nat} (d : decode cc pc = .ok (.ifCond .eq off, 3)) (ht : (pc : Int) + off = (tgt : Int)) (h : (if w32 a = 0 then T else F) = some r) (t : T = some r → VM x nL K sz g gm tgt L st) (f : F = some r → VM x nL K sz g gm (pc + 3) L st) : VM x nL K sz g gm pc L (vI a :: st) := by
  obtain ⟨hx, hb, -⟩ := hX
  have q := br_ite h (eq0_iff32 (a := a)).mp (fun z y => z ((eq0_iff32 (a := a)).mpr y)) t f
  exact fun H locs ls hS hM hl => lv_if_eq hx hb d ht (fun z => q.1 z H locs ls hS hM hl) (fun z => q.2 z H locs ls hS hM hl)
theorem VM_if_ne {α : Type} {T F : Option α} {r : α} (hX : XOK x cc nL own ret rm) {a : Int} {off : Int} {tgt : Nat} (d : decode cc pc = .ok (.ifCond .ne off, 3)) (ht : (pc : Int) + off = (tgt : Int)) (h : (if ¬ w32 a = 0 then T else F) = some r) (t : T = some r → VM x nL K sz g gm tgt L st) (f : F = some r → VM x nL K sz g gm (pc + 3) L st) : VM x nL K sz g gm pc L (vI a :: st) := by
  obtain ⟨hx, hb, -⟩ := hX
  have q := br_ite h (not_congr (eq0_iff32 (a := a))).mp (fun z y => z ((not_congr (eq0_iff32 (a := a))).mpr y)) t f
  exact fun H locs ls hS hM hl => lv_if_ne hx hb d ht (fun z => q.1 z H locs ls hS hM hl) (fun z => q.2 (fun y => y z) H locs ls hS hM hl)
theorem VM_tswIn {dflt lo hi : Int} {offs : Array Int} {len : Nat} {a off : Int} {tgt : Nat} (z : Int) (hX : XOK x cc nL own ret rm) (d : decode cc pc = .ok (.tableswitch dflt lo hi offs, len)) (hz : w32 a = z) (h1 : lo ≤ z) (h2 : z ≤ hi) (ho : offs[(z - lo).toNat]? = some off) (ht : (pc : Int) + off = (tgt : Int)) (k : VM x nL K sz g gm tgt L st) : VM x nL K sz g gm pc L (vI a :: st) := by
  obtain ⟨hx, hb, -⟩ := hX
  have e : (Int32.ofInt a).toInt = z := hz
  exact fun H locs ls hS hM hl => lv_tableIn hx hb d (by rw [e]; omega) (by rw [e]; omega) (by rw [e]; exact ho) ht (k H locs ls hS hM hl)
theorem VM_tswOut {dflt lo hi : Int} {offs : Array Int} {len : Nat} {a : Int} {tgt : Nat} (hX : XOK x cc nL own ret rm) (d : decode cc pc = .ok (.tableswitch dflt lo hi offs, len)) (h : w32 a < lo ∨ hi < w32 a) (ht : (pc : Int) + dflt = (tgt : Int)) (k : VM x nL K sz g gm tgt L st) : VM x nL K sz g gm pc L (vI a :: st) := by
  obtain ⟨hx, hb, -⟩ := hX
  exact fun H locs ls hS hM hl => lv_tableOut hx hb d h ht (k H locs ls hS hM hl)
/-- System.arraycopy of n ints from the start of one array to the start of another -/
theorem VM_sub (ks : List Nat) (hL : lv_pick L ks = L') (k : VM x nL K sz g gm pc L' st) : VM x nL K sz g gm pc L st := fun H locs ls hS hM hl => k H locs ls hS hM (lv_sub hl ks hL)
/-- the script is as it was -/
theorem XM_.scr (hX : XM_ x cc nL own ret b0 Ls xs) {H : Heap} {locs : List Loc} (hS : WS x K z g H locs) (hA : ∀ q, x.2.1.2.2.2.2.2 q → xb x ≤ q) : va_X b0 Ls xs x.1.2.2.2.2.1 H := by
  obtain ⟨scr, h1, h2⟩ := hX.2.2.1
  refine ⟨scr, ?_, h2⟩
  rw [hS.2.2.2.2.1 b0 hX.2.2.2.1 (fun q => by have := hA _ q; have := hX.2.2.2.1; have := hX.2.2.2.2.1; omega)]
  exact h1
theorem VM_sld {i : Int} (j : Nat) (hX : XM_ x cc nL own ret b0 Ls xs) (hj : j < Ls) (hi : w32 i = j) (d : decode cc pc = .ok (.iaload, 1)) (k : VM x nL K z g gm (pc + 1) L (vI (xs j).toInt :: st)) : VM x nL K z g gm pc L (vI i :: .ref b0 :: st) := by
  intro H locs ls hS hM hl
  obtain ⟨hx, hb, hml, hown, hts, hr, hlk, hKK, hrm, hSF, hAb, hfl⟩ := hX.1
  obtain ⟨scr, h1, h2, h3, h4, h5⟩ := hX.scr hS hAb
  have hin : 0 ≤ w32 i ∧ w32 i < (Ls : Int) := by omega
  have hjj : (Int32.ofInt i).toNatClampNeg = j := by
    show (w32 i).toNat = j
    rw [hi]
    rfl
  exact W.iald hx hb h1 h2 h3 (by rw [h4]; exact inb_of hin) (by rw [hjj]; exact h5 j hj) rfl rfl d (by
    have := k H locs ls hS hM hl
    rwa [show vI (xs j).toInt = .int (xs j) from congrArg Value.int (Int32.ofInt_toInt _)] at this)
theorem VM_slen (hX : XM_ x cc nL own ret b0 Ls xs) (d : decode cc pc = .ok (.arraylength, 1)) (k : VM x nL K z g gm (pc + 1) L (vI (Ls : Int) :: st)) : VM x nL K z g gm pc L (.ref b0 :: st) := by
  intro H locs ls hS hM hl
  obtain ⟨hx, hb, hml, hown, hts, hr, hlk, hKK, hrm, hSF, hAb, hfl⟩ := hX.1
  obtain ⟨scr, h1, h2, h3, h4, h5⟩ := hX.scr hS hAb
  exact W.alen hx hb h1 h2 (by rw [h4]; exact (Int32.ofInt_eq_ofNat (n := Ls)).symm) rfl rfl d (k H locs ls hS hM hl)
theorem VM_lald {i : Int} {α : Type} {F : Int → Option α} {r : α} (hX : XOK x cc nL own ret rm) (hK : K o = 40000 + n) (hn : n < 10000) (d : decode cc pc = .ok (.laload, 1)) (h : (rdA g o n i).bind F = some r) (k : ∀ v, F v = some r → VM x nL K z g gm (pc + 1) L (vL v :: st)) : VM x nL K z g gm pc L (vI i :: .ref (xb x + o) :: st) := by
  obtain ⟨hx, hb, hml, hown, hts, hr, hlk, hKK, -⟩ := hX
  intro H locs ls hS hM hl'
  obtain ⟨v, h1, h2⟩ := bind_some_eq h
  unfold rdA at h1
  split at h1
  · rename_i hin
    cases h1
    have hc : H[xb x + o]? = some (arrV (x.2.2.2.1 3) n (fun j => .long (Int64.ofInt (gA g o j)))) := (hS.1 o).2.1 3 n (by omega) hn (by rw [hK])
    exact W.lald hx hb hc ((hKK.2 3 _ rfl).1 n (fun j => .long (Int64.ofInt (gA g o j)))) (fun q => by cases q) (by rw [arrV_size]; exact inb_of hin) (arrV_read _ _ (inb_lt hin)) rfl rfl d (k _ h2 H locs ls hS hM hl')
  · cases h1
/-- the model's cells stand when RainWheel's change -/
theorem WM.kept {H H1 : Heap} (h : WM x gm H) (hz : H.size = xb x + z) (hK : KI K z) (hq : ∀ q : Nat, q < H.size → ¬ AKN (xb x) K z q → H1[q]? = H[q]?) : WM x gm H1 := by
  intro o
  by_cases e : Km o = 0
  · rw [e]
    exact cOK.none
  · have ho := Km_lt e
    refine (h o).kept (hq _ ?_ ?_) (fun f => rfl) (fun k => rfl)
    · rw [hz]
      have := hK.2.2.1
      show xb x + 350 + o < xb x + z
      omega
    · rintro (⟨o', h1, h2⟩ | h1)
      · have e1 : o' = 350 + o := by
          have h1 : xb x + 350 + o = xb x + o' := h1
          omega
        subst e1
        exact h2 (hK.2.2.2.2 _ (by omega) (by omega))
      · have h1 : xb x + z ≤ xb x + 350 + o := h1
        have := hK.2.2.1
        omega
/-- a helper's call -/
theorem VM_callS {a : β} (hX : XOK x cc nL own ret room_1) (hAA : ∀ q, xb x ≤ q → x.2.1.2.2.2.2.2 q) (hKI : KI K z) (hM : ConAW hy true z y bytes maxL ret' fr lo K as g v (.inr a)) (hg : GoodIn lw_all (va_wsS own idx y (wsW_ y bytes maxL ret' hy)))
    (hd : y.cls ≠ "java/lang/invoke/MethodHandle" ∧ y.cls ≠ "java/lang/invoke/VarHandle" ∧ (parseMethodDescriptor y.desc).map (fun d => d.parameters.length) = some n) (hR : fr + 1 ≤ 8192 ∧ 8 + (maxL + 11) + lo ≤ 100000)
    (ha : as (xb x) = As) (hn : As.length = n) (hc : (rest.map fun v => v.category).sum ≤ 8) (d : decode cc pc = .ok (.invokestatic idx, 3))
    (h0 : s0 = As.reverse ++ rest) (h1 : ((v a).1 (xb x)).toList ++ rest = s1)
    (k : KS true K z (v a).2.1 (v a).2.2.1 → VM x nL (v a).2.1 (v a).2.2.1 (v a).2.2.2 gm (pc + 3) L s1) : VM x nL K z g gm pc L s0 := by
  subst h0 h1
  obtain ⟨hx, hb, hml, hown, hts, hr, hlk, hKK, hrm, hSF, hAb, hfl⟩ := hX
  intro H locs ls hS hWM hl'
  have hsz0 : H.size = xb x + z := hS.2.2.1
  have hm := hKI.2.1
  have hMX : MX = 12000 := rfl
  have hAN : ∀ q, AKN (xb x) K z q → x.2.1.2.2.2.2.2 q := fun q hq => hAA q (AKN_le q hq)
  intro T0 hT X0
  rcases vx_runSX (As := As) (rest := rest) ⟨hx, hb, hml, hown, hts⟩ (hM x.1.2.1 x.2.2.1 x.2.2.2.1 (xb x) hfl) (vx_cwSW n hts hg rfl rfl rfl hd (by rw [hrm]; exact hR)) ⟨WU.blind, fun U hU hW => ⟨by rw [ha], ⟨by rw [hU]; exact hS.1, va_K.moved hW.alike hKK, by rw [hU]; exact hS.2.2.1⟩, by rw [hU]; exact hSF.on hW hAb hS.2.2.2⟩⟩ rfl hn hl'.1 rfl (lv_room hc) d (by rw [hrm]; exact ⟨by show z + (MX - z) ≤ 601024; omega, by show 600 * z + 600 * (MX - z) ≤ 7293034; omega⟩) T0 hT X0 with ⟨v', st₀, t, T', L', h0, X', hL, e1, e2, ⟨⟨hv, hW, hF⟩, hKS⟩, st⟩ | ⟨q, st₀, t, T', L', E, ce, h0, X', hL, e1, e2, hq, hce, hcv, hcl, st⟩
  · cases hv
    obtain ⟨k1, k2, k3⟩ := vx_keep h0 e1 hS.2.2.2 (fun q _ hq => hAN q hq) hAN hL hF
    have hsz : T'.heap.size = xb x + (v a).2.2.1 := by rw [e1]; exact hW.2.2
    have hle := hKS.1
    obtain ⟨t2, a1, b1⟩ := k hKS T'.heap (locs ++ L') ls ⟨by rw [e1]; exact hW.1, fun o' ho' => hAA _ (Nat.le_add_right _ _), hsz, k3⟩ (hWM.kept hsz0 hKI k2) hl' T' rfl (stand_widen X' (by show z + ((v a).2.2.1 - z) ≤ (v a).2.2.1; omega) (by show 600 * z + 600 * ((v a).2.2.1 - z) ≤ 600 * (v a).2.2.1; omega))
    exact ⟨t2, st t2 a1, b1⟩
  · exact hq.elim
/-- a call of RainWheel's own that makes cells -/
theorem VM_callXA {a : β} {ci N : Nat} {T : u_T} (hX : XOK x cc nL own ret room_1) (hAA : ∀ q, xb x ≤ q → x.2.1.2.2.2.2.2 q) (hKI : KI K z) (hM : ConA true z y bytes maxL ret' fr lo K as g v (.inr a)) (hg : GoodIn lw_all (wsV own idx C y (ws_ y bytes maxL ret')))
    (hd : y.cls = C ∧ y.cls ≠ "java/lang/invoke/MethodHandle" ∧ y.cls ≠ "java/lang/invoke/VarHandle" ∧ (parseMethodDescriptor y.desc).map (fun d => d.parameters.length) = some n) (hR : fr + 1 ≤ 8192 ∧ 8 + (maxL + 11) + lo ≤ 100000)
    (hcl : clT[ci]? = some (C, T, N)) (hci : ci < 100) (hK : K o = ci + 1) (ha : as (xb x) = .ref (xb x + o) :: As) (hn : As.length = n) (hc : (rest.map fun v => v.category).sum ≤ 8) (d : decode cc pc = .ok (.invokevirtual idx, 3))
    (h0 : s0 = As.reverse ++ .ref (xb x + o) :: rest) (h1 : ((v a).1 (xb x)).toList ++ rest = s1)
    (k : KS true K z (v a).2.1 (v a).2.2.1 → VM x nL (v a).2.1 (v a).2.2.1 (v a).2.2.2 gm (pc + 3) L s1) : VM x nL K z g gm pc L s0 := by
  subst h0 h1
  obtain ⟨hx, hb, hml, hown, hts, hr, hlk, hKK, hrm, hSF, hAb, hfl⟩ := hX
  intro H locs ls hS hWM hl'
  obtain ⟨r, h1, cell, q1, q2, q3, q4⟩ := (hS.1 o).1 ci hci hK
  cases hcl.symm.trans h1
  obtain ⟨hS2, hfc, kC, hkC, hkind⟩ := hKK.1 ci _ hcl
  have hsz0 : H.size = xb x + z := hS.2.2.1
  have hm := hKI.2.1
  have hMX : MX = 12000 := rfl
  have hAN : ∀ q, AKN (xb x) K z q → x.2.1.2.2.2.2.2 q := fun q hq => hAA q (AKN_le q hq)
  intro T0 hT X0
  rcases vx_runV (As := As) (rest := rest) ⟨hx, hb, hml, hown, hts⟩ (hM x.1.2.1 x.2.2.1 x.2.2.2.1 (xb x) hfl) (cwV n hts hg rfl rfl rfl hd (by rw [hrm]; exact hR)) ⟨WU.blind, ⟨cell, q1, by rw [q3]; rfl, by rw [q2]; exact hfc⟩, fun U hU hW => ⟨by rw [ha], ⟨by rw [hU]; exact hS.1, va_K.moved hW.alike hKK, by rw [hU]; exact hS.2.2.1⟩, by rw [hU]; exact hSF.on hW hAb hS.2.2.2⟩⟩ rfl hn hl'.1 rfl (lv_room hc) d (by rw [hrm]; exact ⟨by show z + (MX - z) ≤ 601024; omega, by show 600 * z + 600 * (MX - z) ≤ 7293034; omega⟩) T0 hT X0 with ⟨v', st₀, t, T', L', h0, X', hL, e1, e2, ⟨⟨hv, hW, hF⟩, hKS⟩, st⟩ | ⟨q, st₀, t, T', L', E, ce, h0, X', hL, e1, e2, hq, hce, hcv, hcl, st⟩
  · cases hv
    obtain ⟨k1, k2, k3⟩ := vx_keep h0 e1 hS.2.2.2 (fun q _ hq => hAN q hq) hAN hL hF
    have hsz : T'.heap.size = xb x + (v a).2.2.1 := by rw [e1]; exact hW.2.2
    have hle := hKS.1
    obtain ⟨t2, a1, b1⟩ := k hKS T'.heap (locs ++ L') ls ⟨by rw [e1]; exact hW.1, fun o' ho' => hAA _ (Nat.le_add_right _ _), hsz, k3⟩ (hWM.kept hsz0 hKI k2) hl' T' rfl (stand_widen X' (by show z + ((v a).2.2.1 - z) ≤ (v a).2.2.1; omega) (by show 600 * z + 600 * ((v a).2.2.1 - z) ≤ 600 * (v a).2.2.1; omega))
    exact ⟨t2, st t2 a1, b1⟩
  · exact hq.elim
/-- a call of RainWheel's own that makes none -/
theorem VM_callX {w : Nat → Option Value} {ci N : Nat} {T : u_T} (hX : XOK x cc nL own ret room_1) (hAA : ∀ q, xb x ≤ q → x.2.1.2.2.2.2.2 q) (hKI : KI K z) (hM : Con y bytes maxL ret' fr lo K as g w g') (hg : GoodIn lw_all (wsV own idx C y (ws_ y bytes maxL ret')))
    (hd : y.cls = C ∧ y.cls ≠ "java/lang/invoke/MethodHandle" ∧ y.cls ≠ "java/lang/invoke/VarHandle" ∧ (parseMethodDescriptor y.desc).map (fun d => d.parameters.length) = some n) (hR : fr + 1 ≤ 8192 ∧ 8 + (maxL + 11) + lo ≤ 100000)
    (hcl : clT[ci]? = some (C, T, N)) (hci : ci < 100) (hK : K o = ci + 1) (ha : as (xb x) = .ref (xb x + o) :: As) (hn : As.length = n) (hc : (rest.map fun v => v.category).sum ≤ 8) (d : decode cc pc = .ok (.invokevirtual idx, 3))
    (h0 : s0 = As.reverse ++ .ref (xb x + o) :: rest) (h1 : (w (xb x)).toList ++ rest = s1)
    (k : VM x nL K z g' gm (pc + 3) L s1) : VM x nL K z g gm pc L s0 := by
  subst h0 h1
  obtain ⟨hx, hb, hml, hown, hts, hr, hlk, hKK, hrm, hSF, hAb, hfl⟩ := hX
  intro H locs ls hS hWM hl'
  obtain ⟨r, h1, cell, q1, q2, q3, q4⟩ := (hS.1 o).1 ci hci hK
  cases hcl.symm.trans h1
  obtain ⟨hS2, hfc, kC, hkC, hkind⟩ := hKK.1 ci _ hcl
  have hm := hKI.2.1
  have hMX : MX = 12000 := rfl
  refine call_QR (va_runV (As := As) (rest := rest) ⟨hx, hb, hml, hown, hts⟩ (hM x.1.2.1 x.2.2.1 x.2.2.2.1 (xb x) z hfl) (cwV n hts hg rfl rfl rfl hd (by rw [hrm]; exact hR)) ⟨WU.blind, ⟨cell, q1, by rw [q3]; rfl, by rw [q2]; exact hfc⟩, fun U hU hW => ⟨by rw [ha], ⟨by rw [hU]; exact hS.1, va_K.moved hW.alike hKK, by rw [hU]; exact hS.2.2.1⟩, by rw [hU]; exact hSF.on hW hAb hS.2.2.2⟩⟩ rfl hn hl'.1 rfl (lv_room hc) d (by rw [hrm]; exact ⟨by show z + 0 ≤ 601024; omega, by show 600 * z + 0 ≤ 7293034; omega⟩)) hS.2.2.2 (fun q _ hq => hAA q (AK_le q hq)) (fun q hq => hAA q (AK_le q hq)) fun t H1 locs1 ht hvm hB hz hk hS1 => ?_
  rw [WU, ht] at hB
  exact k H1 locs1 ls ⟨hB.1, hS.2.1, hB.2.2, hS1⟩ (hWM.kept hS.2.2.1 hKI (fun q h1 h2 => hk q h1 (fun z => h2 (Or.inl z)))) hl'
/-- a call of the model's -/
theorem VM_callM {w : Nat → Option Value} {N : Nat} {T : u_T} (hX : XOK x cc nL own ret room_1) (hAA : ∀ q, xb x ≤ q → x.2.1.2.2.2.2.2 q) (hKI : KI K z) (hM : Con y bytes maxL ret' fr lo Km as gm w gm') (hg : GoodIn lw_all (wsV own idx C y (ws_ y bytes maxL ret')))
    (hd : y.cls = C ∧ y.cls ≠ "java/lang/invoke/MethodHandle" ∧ y.cls ≠ "java/lang/invoke/VarHandle" ∧ (parseMethodDescriptor y.desc).map (fun d => d.parameters.length) = some n) (hR : fr + 1 ≤ 8192 ∧ 8 + (maxL + 11) + lo ≤ 100000)
    (hcl : clT[9]? = some (C, T, N)) (ha : as (xb x + 350) = .ref (xb x + 350 + 0) :: As) (hn : As.length = n) (hc : (rest.map fun v => v.category).sum ≤ 8) (d : decode cc pc = .ok (.invokevirtual idx, 3))
    (h0 : s0 = As.reverse ++ .ref (xb x + 350) :: rest) (h1 : (w (xb x + 350)).toList ++ rest = s1)
    (k : VM x nL K z g gm' (pc + 3) L s1) : VM x nL K z g gm pc L s0 := by
  subst h0 h1
  obtain ⟨hx, hb, hml, hown, hts, hr, hlk, hKK, hrm, hSF, hAb, hfl⟩ := hX
  intro H locs ls hS hWM hl'
  obtain ⟨r, h1, cell, q1, q2, q3, q4⟩ := (hWM 0).1 9 (by decide) rfl
  cases hcl.symm.trans h1
  obtain ⟨hS2, hfc, kC, hkC, hkind⟩ := hKK.1 9 _ hcl
  have hm := hKI.2.1
  have hz4 := hKI.2.2.1
  have hMX : MX = 12000 := rfl
  have hAm : ∀ q, AK (xb x + 350) Km q → x.2.1.2.2.2.2.2 q := fun q hq => hAA q (Nat.le_trans (Nat.le_add_right _ _) (AK_le q hq))
  refine call_QR (va_runV (b := xb x + 350) (As := As) (rest := rest) ⟨hx, hb, hml, hown, hts⟩ (hM x.1.2.1 x.2.2.1 x.2.2.2.1 (xb x + 350) (z - 350) hfl) (cwV n hts hg rfl rfl rfl hd (by rw [hrm]; exact hR)) ⟨WU.blind, ⟨cell, q1, by rw [q3]; rfl, by rw [q2]; exact hfc⟩, fun U hU hW => ⟨by rw [ha], ⟨by rw [hU]; exact hWM, va_K.moved hW.alike hKK, by rw [hU, hS.2.2.1]; omega⟩, by rw [hU]; exact (hSF.on hW hAb hS.2.2.2).wide (Nat.le_add_right _ _)⟩⟩ rfl hn hl'.1 rfl (lv_room hc) d (by rw [hrm]; exact ⟨by show z + 0 ≤ 601024; omega, by show 600 * z + 0 ≤ 7293034; omega⟩)) hS.2.2.2 (fun q _ hq => hAm q hq) hAm fun t H1 locs1 ht hvm hB hz hk hS1 => ?_
  rw [WU, ht] at hB
  refine k H1 locs1 ls ⟨fun o => ?_, hS.2.1, by rw [hB.2.2]; omega, hS1⟩ hB.1 hl'
  by_cases e : K o = 0
  · rw [e]
    exact cOK.none
  · have hlt : o < z := hKI.ks.no o e
    refine (hS.1 o).kept (hk _ (by rw [hS.2.2.1]; exact Nat.add_lt_add_left hlt _) ?_) (fun f => rfl) (fun k => rfl)
    rintro ⟨o', h1, h2⟩
    have h3 := Km_lt h2
    have h1 : xb x + o = xb x + 350 + o' := h1
    exact e (hKI.2.2.2.2 o (by omega) (by omega))
end ENGVM
