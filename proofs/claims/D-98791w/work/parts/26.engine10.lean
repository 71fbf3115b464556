/-! ENGINE 10: the readers' words -/
set_option maxRecDepth 100000
def rdW (w : Nat) (i : Int) : Option Nat := if 0 ≤ w32 i ∧ w32 i < wln w then some (w32 i).toNat else none
theorem rdW_some {w : Nat} {i : Int} {α : Type} {F : Nat → Option α} {r : α} (h : (rdW w i).bind F = some r) : ∃ v : Nat, (0 ≤ w32 i ∧ w32 i < wln w) ∧ (w32 i).toNat = v ∧ v < wln w ∧ F v = some r := by
  obtain ⟨v, h1, h2⟩ := bind_some_eq h
  unfold rdW at h1
  split at h1
  · rename_i q
    cases h1
    exact ⟨_, q, rfl, by omega, h2⟩
  · cases h1
theorem wix_lt {w v : Nat} (hv : v < wln w) : wix w v < 39 := by
  unfold wln at hv
  unfold wix
  split
  · rename_i h
    rw [if_pos h] at hv
    omega
  · rename_i h
    rw [if_neg h] at hv
    omega
theorem asS : ∀ j, j < 39 → asc (stx j) ∧ (stx j).length < 1000 := by
  unfold asc
  decide +kernel
section ENGW
variable {x : CT} {cc : ByteArray} {nL : Nat} {own : String} {ret : Option FieldType} {rm : Room} {K : Nat → Nat} {ce sl sz : Nat} {g : GS} {pc : Nat} {L : List (Nat × Value)} {st : List Value} {o w : Nat}
theorem V_aaldS {i : Int} {v : Nat} (hX : XOK x cc nL own ret rm) (hK : K o = 200 + w) (hw : w < 2) (hin : 0 ≤ w32 i ∧ w32 i < wln w) (hv : (w32 i).toNat = v) (d : decode cc pc = .ok (.aaload, 1)) (k : V x nL K ce sl sz g (pc + 1) L (.ref (x.2.2.1.2 1000 (wix w v)) :: st)) : V x nL K ce sl sz g pc L (vI i :: .ref (xb x + o) :: st) := by
  subst hv
  obtain ⟨hx, hb, hml, hown, hts, hr, hlk, hKK, hrm, -⟩ := hX
  intro H locs ls hS hl'
  have hc := (hS.1 o).2.2.2 w hw hK
  have hval : (arrV (x.2.2.2.1 8) (wln w) (fun k => va_rf (some (x.2.2.1.2 1000 (wix w k))))).slots[(w32 i).toNat]? = some (.ref (x.2.2.1.2 1000 (wix w (w32 i).toNat))) := by
    rw [arrV_read _ _ (inb_lt hin)]
    rfl
  exact W.aald (v := .ref (x.2.2.1.2 1000 (wix w (w32 i).toNat))) (ty := .object "java/lang/String") hx hb hc (by rw [vp_cell_q]; exact (hKK.2 8 _ rfl).1 _ _) rfl (fun q => by cases q) (by rw [vp_cell_q, arrV_size]; exact inb_of hin) (by rw [vp_cell_q]; exact hval) rfl rfl d (k H locs ls hS hl')
theorem V_alenS (hX : XOK x cc nL own ret rm) (hK : K o = 200 + w) (hw : w < 2) (d : decode cc pc = .ok (.arraylength, 1)) (k : V x nL K ce sl sz g (pc + 1) L (vI (wln w : Int) :: st)) : V x nL K ce sl sz g pc L (.ref (xb x + o) :: st) := by
  obtain ⟨hx, hb, hml, hown, hts, hr, hlk, hKK, hrm, -⟩ := hX
  intro H locs ls hS hl'
  have hc := (hS.1 o).2.2.2 w hw hK
  have hs : (vp_cell (x.2.2.2.1 8) (wln w, .inr (.inr (.inr (.inr fun k => some (x.2.2.1.2 1000 (wix w k))))))).slots.size.toInt32 = Int32.ofInt (wln w : Int) := by
    rw [vp_cell_q, arrV_size, Int32.ofInt_eq_ofNat]
  exact W.alen (ty := .object "java/lang/String") hx hb hc (by rw [vp_cell_q]; exact (hKK.2 8 _ rfl).1 _ _) hs rfl rfl d (k H locs ls hS hl')
end ENGW
