/-! ENGINE 1: pure states and numbers -/
abbrev GS : Type := (Nat → Nat → Int) × (Nat → Nat → Int)
def gI (g : GS) (f o : Nat) : Int := g.1 f o
def gA (g : GS) (o k : Nat) : Int := g.2 o k
def sI (g : GS) (f o : Nat) (v : Int) : GS := (fun f' o' => if f' = f ∧ o' = o then v else g.1 f' o', g.2)
def sA (g : GS) (o k : Nat) (v : Int) : GS := (g.1, fun o' k' => if o' = o ∧ k' = k then v else g.2 o' k')
theorem gI_sI (g : GS) (f o : Nat) (v : Int) (f' o' : Nat) : gI (sI g f o v) f' o' = if f' = f ∧ o' = o then v else gI g f' o' := rfl
theorem gA_sI (g : GS) (f o : Nat) (v : Int) (o' k' : Nat) : gA (sI g f o v) o' k' = gA g o' k' := rfl
theorem gI_sA (g : GS) (o k : Nat) (v : Int) (f' o' : Nat) : gI (sA g o k v) f' o' = gI g f' o' := rfl
theorem gA_sA (g : GS) (o k : Nat) (v : Int) (o' k' : Nat) : gA (sA g o k v) o' k' = if o' = o ∧ k' = k then v else gA g o' k' := rfl
def w32 (a : Int) : Int := (Int32.ofInt a).toInt
def w64 (a : Int) : Int := (Int64.ofInt a).toInt
theorem w32_of {a : Int} (h1 : -2147483648 ≤ a) (h2 : a ≤ 2147483647) : w32 a = a := Int32.toInt_ofInt_of_le (by omega) (by omega)
theorem w64_of {a : Int} (h1 : -9223372036854775808 ≤ a) (h2 : a ≤ 9223372036854775807) : w64 a = a := Int64.toInt_ofInt_of_le (by omega) (by omega)
theorem w32_eqv (a : Int) : Int32.ofInt (w32 a) = Int32.ofInt a := Int32.ofInt_toInt _
theorem w64_eqv (a : Int) : Int64.ofInt (w64 a) = Int64.ofInt a := Int64.ofInt_toInt _
def i_and (a b : Int) : Int := (Int32.ofInt a &&& Int32.ofInt b).toInt
def i_or (a b : Int) : Int := (Int32.ofInt a ||| Int32.ofInt b).toInt
def i_xor (a b : Int) : Int := (Int32.ofInt a ^^^ Int32.ofInt b).toInt
def i_shl (a b : Int) : Int := (Int32.ofInt a <<< (Int32.ofInt b &&& 31)).toInt
def i_shr (a b : Int) : Int := (Int32.ofInt a >>> (Int32.ofInt b &&& 31)).toInt
def i_div (a b : Int) : Int := (Int32.ofInt a / Int32.ofInt b).toInt
def i_rem (a b : Int) : Int := (Int32.ofInt a - Int32.ofInt a / Int32.ofInt b * Int32.ofInt b).toInt
def i_b (a : Int) : Int := (Int32.ofInt a).toInt8.toInt32.toInt
def l_div (a b : Int) : Int := (Int64.ofInt a / Int64.ofInt b).toInt
def l_rem (a b : Int) : Int := (Int64.ofInt a - Int64.ofInt a / Int64.ofInt b * Int64.ofInt b).toInt
def l_cmp (a b : Int) : Int := if w64 b < w64 a then 1 else if w64 a = w64 b then 0 else -1
/-- an array of n places read at i -/
def rdA (g : GS) (id n : Nat) (i : Int) : Option Int := if 0 ≤ w32 i ∧ w32 i < n then some (gA g id (w32 i).toNat) else none
def wrA (g : GS) (id n : Nat) (i v : Int) : Option GS := if 0 ≤ w32 i ∧ w32 i < n then some (sA g id (w32 i).toNat v) else none
/-- a boolean answer -/
def rtZ {α : Type} (v : Int) (x : Option α) : Option α := if v = 0 ∨ v = 1 then x else none
/-- a divisor -/
def dvI {α : Type} (v : Int) (x : Option α) : Option α := if w32 v = 0 then none else x
def dvL {α : Type} (v : Int) (x : Option α) : Option α := if w64 v = 0 then none else x
/-- a loop by its body: on, or out -/
def loopN {σ ρ : Type} (B : σ → Option (σ ⊕ ρ)) : Nat → σ → Option ρ
  | 0, _ => none
  | n + 1, s => (B s).bind fun q => match q with
    | .inl s' => loopN B n s'
    | .inr e => some e
theorem loop_walk {σ ρ : Type} {B : σ → Option (σ ⊕ ρ)} {P : σ → Prop} {E : ρ → Prop} (hs : ∀ s q, B s = some q → (∀ s', q = .inl s' → P s') → (∀ e, q = .inr e → E e) → P s) : ∀ (n : Nat) (s : σ) (e : ρ), loopN B n s = some e → E e → P s := by
  intro n
  induction n with
  | zero => intro s e h; cases h
  | succ n ih =>
    intro s e h he
    cases hq : B s with
    | none => rw [loopN, hq] at h; cases h
    | some q =>
      rw [loopN, hq] at h
      refine hs s q hq (fun s' e1 => ?_) (fun e2 e1 => ?_)
      · subst e1
        exact ih s' e h he
      · subst e1
        cases h
        exact he
/-- the loop ends, and ends well -/
theorem loop_inv {σ ρ : Type} {B : σ → Option (σ ⊕ ρ)} (I : σ → Prop) (μ : σ → Nat) (P : ρ → Prop)
    (hs : ∀ s, I s → (∃ s', B s = some (.inl s') ∧ I s' ∧ μ s' < μ s) ∨ (∃ e, B s = some (.inr e) ∧ P e)) :
    ∀ (n : Nat) (s : σ), I s → μ s < n → ∃ e, loopN B n s = some e ∧ P e := by
  intro n
  induction n with
  | zero => intro s _ h; omega
  | succ n ih =>
    intro s hi hm
    rcases hs s hi with ⟨s', h1, h2, h3⟩ | ⟨e, h1, h2⟩
    · obtain ⟨e, h4, h5⟩ := ih s' h2 (by omega)
      exact ⟨e, by rw [loopN, h1]; exact h4, h5⟩
    · exact ⟨e, by rw [loopN, h1]; rfl, h2⟩
theorem bind_some_eq {α β : Type} {o : Option α} {f : α → Option β} {r : β} (h : o.bind f = some r) : ∃ a, o = some a ∧ f a = some r := by
  cases o with
  | none => cases h
  | some a => exact ⟨a, rfl, h⟩
def outR {σ ρ : Type} (x : Option ρ) : Option (σ ⊕ ρ) := x.map .inr
theorem outR_some {σ ρ : Type} {x : Option ρ} {q : σ ⊕ ρ} (h : outR x = some q) : ∃ e, x = some e ∧ q = .inr e := by
  cases x with
  | none => cases h
  | some e => cases h; exact ⟨e, rfl, rfl⟩
