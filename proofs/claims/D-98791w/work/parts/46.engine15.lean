/-! ENGINE 15: an array of longs; what is thrown is of no other kind -/
set_option maxRecDepth 100000
theorem Wd.stoL {D : va_G} {dA : Nat → ClassId} {b : Nat} {K : Nat → Nat} {g : GS} {H H1 : Heap} {o n k : Nat} {a : Int} (h : Wd D dA b K g H) (hn : n < 10000) (hK : K o = 40000 + n)
    (hv : H1[b + o]? = some (arrV (dA 3) n (updV (fun j => .long (Int64.ofInt (gA g o j))) k (.long (Int64.ofInt a))))) (hq : ∀ q, q ≠ b + o → H1[q]? = H[q]?) : Wd D dA b K (sA g o k a) H1 := by
  intro o'
  by_cases e : o' = o
  · subst e
    refine ⟨fun ci' hc' e' => by omega, fun t' n' ht' hn' e => ?_, fun t n h4 ht hn e => by omega, fun i hi e => by omega⟩
    have e1 : t' = 3 := by omega
    have e2 : n' = n := by omega
    subst e1 e2
    rw [hv]
    show some (arrV (dA 3) n' _) = some (arrV (dA 3) n' (fun j => .long (Int64.ofInt (gA (sA g o' k a) o' j))))
    congr 2
    funext j
    unfold updV
    rw [gA_sA]
    by_cases hj : j = k
    · rw [if_pos hj, if_pos ⟨rfl, hj⟩]
    · rw [if_neg hj, if_neg (fun z => hj z.2)]
  · exact (h o').kept (hq _ (fun z => e (by omega))) (fun f => rfl) (fun k => by rw [gA_sA, if_neg (fun z => e z.1)])
section ENGL
variable {x : CT} {cc bytes : ByteArray} {nL maxL : Nat} {own C : String} {ret ret' : Option FieldType} {rm : Room} {K K' K0 : Nat → Nat} {ce sl sz z z0 : Nat} {g g' : GS} {pc : Nat} {L : List (Nat × Value)} {st rest As s0 s1 : List Value} {o idx n e : Nat}
theorem V_last {α : Type} {F : GS → Option α} {r : α} {i a : Int} (hX : XOK x cc nL own ret rm) (hK : K o = 40000 + n) (hn : n < 10000) (d : decode cc pc = .ok (.lastore, 1)) (h : (wrA g o n i a).bind F = some r) (k : ∀ g', F g' = some r → V x nL K ce sl sz g' (pc + 1) L st) : V x nL K ce sl sz g pc L (vL a :: vI i :: .ref (xb x + o) :: st) := by
  obtain ⟨hx, hb, hml, hown, hts, hr, hlk, hKK, -⟩ := hX
  intro H locs ls hS hl'
  obtain ⟨v, h1, h2⟩ := bind_some_eq h
  unfold wrA at h1
  split at h1
  · rename_i hin
    cases h1
    have hc : H[xb x + o]? = some (arrV (x.2.2.2.1 3) n (fun j => .long (Int64.ofInt (gA g o j)))) := (hS.1 o).2.1 3 n (by omega) hn (by rw [hK])
    refine W.last hx hb hc ((hKK.2 3 _ rfl).1 n (fun j => .long (Int64.ofInt (gA g o j)))) (fun q => by cases q) (by rw [arrV_size]; exact inb_of hin) rfl rfl d fun H1 e z oq => ?_
    refine k _ h2 H1 _ ls ⟨hS.1.stoL hn hK ?_ oq, hS.2.1, z.trans hS.2.2.1, hS.2.2.2.put z oq (hS.2.1 o (by rw [hK]; omega))⟩ hl'
    rw [e, arrV_store]
    rfl
  · cases h1
theorem V_newarrL {N : Nat} (hX : XOK x cc nL own ret rm) (hw : Cond.arrayClass .long ∈ lw_all) (hN : N < 10000) (hA : x.2.1.2.2.2.2.2 (xb x + sz)) (hcc : ce + 1 ≤ rm.cells ∧ sl + N ≤ rm.slots) (d : decode cc pc = .ok (.newarray .long, 2))
    (k : V x nL (ku K sz (40000 + N)) (ce + 1) (sl + N) (sz + 1) (newA sz 0 g) (pc + 2) L (.ref (xb x + sz) :: st)) : V x nL K ce sl sz g pc L (vI N :: st) := by
  obtain ⟨hx, hb, hml, hown, hts, hr, hlk, hKK, hrm, hSF, hAb, hfl⟩ := hX
  intro H locs ls hS hl'
  have zn : (Int32.ofInt (N : Int)).toInt = N := w32_of (by omega) (by omega)
  have hs : H.size = xb x + sz := hS.2.2.1
  refine va_newaK (atype := .long) hx hb (hts _ hw) rfl d rfl (N := N) (fun q => by
      have q2 := lt0_iff32.mp q
      unfold w32 at q2
      omega) (by show ((Int32.ofInt (N : Int)).toInt).toNat = N; rw [zn]; rfl) (by show N * 8 ≤ _; omega) (by rw [hrm]; exact hcc.1) (by rw [hrm]; exact hcc.2) hs fun H1 cA e1 z1 o1 hAr hNm => ?_
  have hcA : cA = x.2.2.2.1 3 := Option.some.inj (hNm.symm.trans (hKK.2 3 _ rfl).2)
  subst hcA
  refine k H1 locs ls ⟨hS.1.made hs o1 (fun f o ho => rfl) (fun o k ho => by rw [gA_newA, if_neg ho]) ⟨fun ci' hc' e' => by omega, fun t' n' ht' hn' e' => ?_, fun t' n' h4 ht' hn' e' => by omega, fun i hi e' => by omega⟩, fun o ho => ?_, by rw [z1]; omega, ⟨by rw [z1, ← hs]; exact Nat.le_succ_of_le hS.2.2.2.1, fun q h1 h2 => by rw [o1 q (by rw [← hs]; exact Nat.lt_of_lt_of_le h1 hS.2.2.2.1)]; exact hS.2.2.2.2.1 q h1 h2, hS.2.2.2.2.2⟩⟩ hl'
  · have e2 : t' = 3 := by omega
    have e3 : n' = N := by omega
    subst e2 e3
    rw [e1]
    show some (arrV _ n' _) = some (arrV (x.2.2.2.1 3) n' (fun j => .long (Int64.ofInt (gA (newA sz 0 g) sz j))))
    congr 2
    funext j
    rw [gA_newA, if_pos rfl]
    rfl
  · by_cases e : o = sz
    · rw [e]; exact hA
    · rw [ku_ne e] at ho
      exact hS.2.1 o ho
end ENGL
theorem SF.nc {D : va_G} {b : Nat} {U : State} {H : Heap} {E T : String} (h : SF D b U H) (l : List Nat) (hp : pickC l PG = Cond.not (.castable E T)) : va_Nc E T U := by
  obtain ⟨u0, b0, h1, h2, h3, h4, h5, h6, h7⟩ := h
  have h9 : (pickC l PG).before #[Value.ref b0] u0 = true := pick_before l PG h1
  rw [hp] at h9
  exact va_Nc.moved h3.alike (va_Nc.of h9)
theorem nc_1_0 : pickC [1, 0, 0, 0, 1, 1, 1, 1, 0, 0] PG = Cond.not (.castable (exn 1) "java/util/NoSuchElementException") := by decide +kernel
theorem nc_2_1 : pickC [1, 0, 0, 0, 0, 1, 1, 1, 0, 1] PG = Cond.not (.castable (exn 2) "java/lang/IllegalArgumentException") := by decide +kernel
theorem SF.wide {D : va_G} {b b' : Nat} {U : State} {H : Heap} (h : SF D b U H) (hb : b ≤ b') : SF D b' U H := by
  obtain ⟨u0, b0, h1, h2, h3, h4, h5, h6, h7⟩ := h
  exact ⟨u0, b0, h1, h2, h3, Nat.le_trans h4 hb, h5, h6, h7⟩
