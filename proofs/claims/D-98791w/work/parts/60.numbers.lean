set_option maxRecDepth 100000
/-! PLAIN 1: numbers, bits, loops -/
theorem w32_lo (a : Int) : -2147483648 ≤ w32 a := Int32.le_toInt _
theorem w32_hi (a : Int) : w32 a ≤ 2147483647 := by have := Int32.toInt_lt (Int32.ofInt a); unfold w32; omega
theorem w32_w32 (a : Int) : w32 (w32 a) = w32 a := w32_of (w32_lo a) (w32_hi a)
theorem w32_rng {a : Int} (h : w32 a = a) : -2147483648 ≤ a ∧ a ≤ 2147483647 := ⟨h ▸ w32_lo a, h ▸ w32_hi a⟩
theorem w32_z : w32 0 = 0 := rfl
theorem w32_m1 : w32 (-1) = -1 := rfl
theorem rdA_of {g : GS} {id n : Nat} {i : Int} (h0 : 0 ≤ i) (h1 : i < n) (hn : n ≤ 1000000) : rdA g id n i = some (gA g id i.toNat) := by
  unfold rdA
  rw [w32_of (by omega) (by omega), if_pos ⟨h0, h1⟩]
theorem wrA_of {g : GS} {id n : Nat} {i v : Int} (h0 : 0 ≤ i) (h1 : i < n) (hn : n ≤ 1000000) : wrA g id n i v = some (sA g id i.toNat v) := by
  unfold wrA
  rw [w32_of (by omega) (by omega), if_pos ⟨h0, h1⟩]
theorem rdA_nat {g : GS} {id n k : Nat} (h1 : k < n) (hn : n ≤ 1000000) : rdA g id n (k : Int) = some (gA g id k) := by
  rw [rdA_of (by omega) (by omega) hn]; rfl
theorem wrA_nat {g : GS} {id n k : Nat} {v : Int} (h1 : k < n) (hn : n ≤ 1000000) : wrA g id n (k : Int) v = some (sA g id k v) := by
  rw [wrA_of (by omega) (by omega) hn]; rfl
theorem rdA_at {g : GS} {id n : Nat} {i : Int} (k : Nat) (e : i = k) (h1 : k < n) (hn : n ≤ 1000000) : rdA g id n i = some (gA g id k) := by
  subst e; exact rdA_nat h1 hn
theorem wrA_at {g : GS} {id n : Nat} {i v : Int} (k : Nat) (e : i = k) (h1 : k < n) (hn : n ≤ 1000000) : wrA g id n i v = some (sA g id k v) := by
  subst e; exact wrA_nat h1 hn
theorem rdA_val {g : GS} {id n k : Nat} {v : Int} (e : gA g id k = v) (h1 : k < n) (hn : n ≤ 1000000) : rdA g id n (k : Int) = some v := by
  rw [rdA_nat h1 hn, e]
theorem rdA_atv {g : GS} {id n : Nat} {i v : Int} {k : Nat} (e : gA g id k = v) (e2 : i = k) (h1 : k < n) (hn : n ≤ 1000000) : rdA g id n i = some v := by
  subst e2; exact rdA_val e h1 hn
theorem rdR_of {K : Nat → Nat} {g : GS} {f o kd r : Nat} (h : gI g f o = r) (hk : K r = kd) : rdR K g f o kd = some r := by
  unfold rdR; rw [h]; exact if_pos ⟨by omega, hk⟩
theorem rdQ_of {K : Nat → Nat} {g : GS} {id n kd r k : Nat} (h1 : k < n) (hn : n ≤ 1000000) (h : gA g id k = r) (hk : K r = kd) : rdQ K g id n (k : Int) kd = some r := by
  unfold rdQ
  rw [w32_of (by omega) (by omega), show ((k : Int)).toNat = k from rfl, h]
  exact if_pos ⟨⟨by omega, by omega⟩, by omega, hk⟩
theorem obind_some {α β : Type} (a : α) (f : α → Option β) : (some a).bind f = f a := rfl
theorem outR_eq {σ ρ : Type} (r : ρ) : outR (σ := σ) (some r) = some (.inr r) := rfl
/-- a loop by its closed form: n rounds, then out -/
theorem loop_up {σ ρ : Type} {B : σ → Option (σ ⊕ ρ)} (F : Nat → σ) (n : Nat) (e : ρ) (hs : ∀ i, i < n → B (F i) = some (.inl (F (i + 1)))) (he : B (F n) = some (.inr e)) : ∀ (N : Nat), n < N → loopN B N (F 0) = some e := by
  have key : ∀ (m i N : Nat), i + m = n → m < N → loopN B N (F i) = some e := by
    intro m
    induction m with
    | zero =>
      intro i N h1 h2
      obtain ⟨N, rfl⟩ : ∃ q, N = q + 1 := ⟨N - 1, by omega⟩
      have : i = n := by omega
      subst this
      rw [loopN, he]; rfl
    | succ m ih =>
      intro i N h1 h2
      obtain ⟨N, rfl⟩ : ∃ q, N = q + 1 := ⟨N - 1, by omega⟩
      rw [loopN, hs i (by omega)]
      exact ih (i + 1) N (by omega) (by omega)
  intro N hN
  exact key n 0 N (by omega) hN
/-- the same from a given state -/
theorem loop_up' {σ ρ : Type} {B : σ → Option (σ ⊕ ρ)} {s : σ} (F : Nat → σ) (n : Nat) (e : ρ) (h0 : F 0 = s) (hs : ∀ i, i < n → B (F i) = some (.inl (F (i + 1)))) (he : B (F n) = some (.inr e)) {N : Nat} (hN : n < N) : loopN B N s = some e := h0 ▸ loop_up F n e hs he N hN
/-- a loop by what stays true, and its answer -/
theorem loop_val {σ ρ : Type} {B : σ → Option (σ ⊕ ρ)} {s : σ} {v : ρ} (I : σ → Prop) (μ : σ → Nat) (hs : ∀ s, I s → (∃ s', B s = some (.inl s') ∧ I s' ∧ μ s' < μ s) ∨ B s = some (.inr v)) {N : Nat} (hI : I s) (hμ : μ s < N) : loopN B N s = some v := by
  obtain ⟨e, h1, h2⟩ := loop_inv I μ (fun e => e = v) (fun s h => (hs s h).imp id fun h => ⟨v, h, rfl⟩) N s hI hμ
  rw [h1, h2]
/-- two loops that go side by side -/
theorem loop_two {σ ρ τ υ : Type} {B : σ → Option (σ ⊕ ρ)} {C : τ → Option (τ ⊕ υ)} (I : Nat → σ → τ → Prop) (Q : ρ → υ → Prop) (n : Nat)
    (hs : ∀ i s t, i ≤ n → I i s t → (i < n ∧ ∃ s' t', B s = some (.inl s') ∧ C t = some (.inl t') ∧ I (i + 1) s' t') ∨ (∃ e f, B s = some (.inr e) ∧ C t = some (.inr f) ∧ Q e f)) :
    ∀ (N : Nat) s t, I 0 s t → n < N → ∃ e f, loopN B N s = some e ∧ loopN C N t = some f ∧ Q e f := by
  have key : ∀ (m i N : Nat) s t, i + m = n → m < N → I i s t → ∃ e f, loopN B N s = some e ∧ loopN C N t = some f ∧ Q e f := by
    intro m
    induction m with
    | zero =>
      intro i N s t h1 h2 h3
      obtain ⟨N, rfl⟩ : ∃ q, N = q + 1 := ⟨N - 1, by omega⟩
      rcases hs i s t (by omega) h3 with ⟨h4, -⟩ | ⟨e, f, h4, h5, h6⟩
      · omega
      · exact ⟨e, f, by rw [loopN, h4]; rfl, by rw [loopN, h5]; rfl, h6⟩
    | succ m ih =>
      intro i N s t h1 h2 h3
      obtain ⟨N, rfl⟩ : ∃ q, N = q + 1 := ⟨N - 1, by omega⟩
      rcases hs i s t (by omega) h3 with ⟨h4, s', t', h5, h6, h7⟩ | ⟨e, f, h4, h5, h6⟩
      · obtain ⟨e, f, q1, q2, q3⟩ := ih (i + 1) N s' t' (by omega) (by omega) h7
        exact ⟨e, f, by rw [loopN, h5]; exact q1, by rw [loopN, h6]; exact q2, q3⟩
      · exact ⟨e, f, by rw [loopN, h4]; rfl, by rw [loopN, h5]; rfl, h6⟩
  intro N s t h1 h2
  exact key n 0 N s t (by omega) h2 h1
/-- sums, greatest -/
def sumN : Nat → (Nat → Int) → Int
  | 0, _ => 0
  | n + 1, f => sumN n f + f n
def maxN : Int → Nat → (Nat → Int) → Int
  | a, 0, _ => a
  | a, n + 1, f => if maxN a n f < f n then f n else maxN a n f
theorem sumN_congr {f f' : Nat → Int} : ∀ {n : Nat}, (∀ k, k < n → f k = f' k) → sumN n f = sumN n f'
  | 0, _ => rfl
  | n + 1, h => by rw [sumN, sumN, sumN_congr fun k hk => h k (by omega), h n (by omega)]
theorem sumN_bd {f : Nat → Int} {b : Int} : ∀ {n : Nat}, (∀ k, k < n → 0 ≤ f k ∧ f k ≤ b) → 0 ≤ sumN n f ∧ sumN n f ≤ n * b
  | 0, _ => ⟨Int.le_refl _, by simp [sumN]⟩
  | n + 1, h => by
    have h1 := sumN_bd (n := n) fun k hk => h k (by omega)
    have h2 := h n (by omega)
    have e : ((n + 1 : Nat) : Int) * b = n * b + b := by rw [Int.natCast_add, Int.add_mul]; simp
    rw [sumN]
    omega
theorem bv_nat {n : Nat} (h : n < 2147483648) : (Int32.ofInt (n : Int)).toBitVec.toNat = n := by
  rw [Int32.toBitVec_ofInt, BitVec.ofInt_natCast, BitVec.toNat_ofNat]
  exact Nat.mod_eq_of_lt (by omega)
theorem bv_msb {x : BitVec 32} (h : x.toNat < 2147483648) : x.msb = false := by
  rw [BitVec.msb_eq_decide]
  simpa using h
theorem bv_int {x : BitVec 32} {n : Nat} (e : x.toNat = n) (h : n < 2147483648) : x.toInt = n := by
  rw [BitVec.toInt_eq_toNat_of_msb (bv_msb (by omega)), e]
theorem sh_amt {k : Nat} (h : k < 32) : ((Int32.ofInt (k : Int) &&& 31).toBitVec.smod 32).toNat = k := by
  have : ∀ k : Nat, k < 32 → ((Int32.ofInt (k : Int) &&& 31).toBitVec.smod 32).toNat = k := by decide +kernel
  exact this k h
theorem i_shr_nat {n k : Nat} (hn : n < 2147483648) (hk : k < 32) : i_shr n k = ((n >>> k : Nat) : Int) := by
  unfold i_shr
  show (Int32.toBitVec (Int32.ofInt ↑n >>> (Int32.ofInt ↑k &&& 31))).toInt = _
  have hb := bv_nat hn
  refine bv_int ?_ (by have := Nat.shiftRight_le n k; omega)
  rw [Int32.toBitVec_shiftRight, BitVec.sshiftRight', BitVec.sshiftRight_eq_of_msb_false (bv_msb (by omega)), BitVec.toNat_ushiftRight, hb, sh_amt hk]
theorem i_shl_nat {n k : Nat} (hn : n <<< k < 2147483648) (hn1 : n < 2147483648) (hk : k < 32) : i_shl n k = ((n <<< k : Nat) : Int) := by
  unfold i_shl
  show (Int32.toBitVec (Int32.ofInt ↑n <<< (Int32.ofInt ↑k &&& 31))).toInt = _
  refine bv_int ?_ hn
  rw [Int32.toBitVec_shiftLeft, BitVec.shiftLeft_eq', sh_amt hk, BitVec.toNat_shiftLeft, bv_nat hn1]
  exact Nat.mod_eq_of_lt (by omega)
theorem i_and_nat {a b : Nat} (ha : a < 2147483648) (hb : b < 2147483648) : i_and a b = ((a &&& b : Nat) : Int) := by
  unfold i_and
  show (Int32.toBitVec (Int32.ofInt ↑a &&& Int32.ofInt ↑b)).toInt = _
  refine bv_int ?_ (Nat.lt_of_le_of_lt Nat.and_le_left ha)
  rw [Int32.toBitVec_and, BitVec.toNat_and, bv_nat ha, bv_nat hb]
theorem i_or_nat {a b : Nat} (ha : a < 2147483648) (hb : b < 2147483648) : i_or a b = ((a ||| b : Nat) : Int) := by
  unfold i_or
  show (Int32.toBitVec (Int32.ofInt ↑a ||| Int32.ofInt ↑b)).toInt = _
  refine bv_int ?_ (Nat.or_lt_two_pow (n := 31) ha hb)
  rw [Int32.toBitVec_or, BitVec.toNat_or, bv_nat ha, bv_nat hb]
theorem bit_at {n k : Nat} (hn : n < 2147483648) (hk : k < 32) : i_and (i_shr n k) 1 = if n.testBit k then 1 else 0 := by
  rw [i_shr_nat hn hk, show (1 : Int) = ((1 : Nat) : Int) from rfl, i_and_nat (by have := Nat.shiftRight_le n k; omega) (by omega), Nat.testBit, Nat.and_comm]
  rcases Nat.mod_two_eq_zero_or_one (n >>> k) with h | h <;> simp [Nat.and_comm, Nat.and_one_is_mod, h]
theorem shl_one {k : Nat} (hk : k < 31) : i_shl 1 k = ((2 ^ k : Nat) : Int) := by
  have := i_shl_nat (n := 1) (k := k) (by rw [Nat.one_shiftLeft]; exact Nat.pow_lt_pow_of_lt (by omega) hk) (by omega) (by omega)
  rw [Nat.one_shiftLeft] at this
  exact this
theorem bits_ones : ∀ n : Nat, n < 64 → i_bits (n : Int) = sumN 12 (fun p => if n.testBit p then 1 else 0) := by decide +kernel
/-- a loop of n rounds, by what holds ahead of each -/
theorem loop_ex {σ ρ : Type} {B : σ → Option (σ ⊕ ρ)} (I : Nat → σ → Prop) (n : Nat) (Q : ρ → Prop) (hs : ∀ i s, i < n → I i s → ∃ s', B s = some (.inl s') ∧ I (i + 1) s') (he : ∀ s, I n s → ∃ e, B s = some (.inr e) ∧ Q e) {N : Nat} {s : σ} (h0 : I 0 s) (hN : n < N) : ∃ e, loopN B N s = some e ∧ Q e := by
  have key : ∀ (m i N : Nat) s, i + m = n → m < N → I i s → ∃ e, loopN B N s = some e ∧ Q e := by
    intro m
    induction m with
    | zero =>
      intro i N s h1 h2 h3
      obtain ⟨N, rfl⟩ : ∃ q, N = q + 1 := ⟨N - 1, by omega⟩
      have : i = n := by omega
      subst this
      obtain ⟨e, h4, h5⟩ := he s h3
      exact ⟨e, by rw [loopN, h4]; rfl, h5⟩
    | succ m ih =>
      intro i N s h1 h2 h3
      obtain ⟨N, rfl⟩ : ∃ q, N = q + 1 := ⟨N - 1, by omega⟩
      obtain ⟨s', h4, h5⟩ := hs i s (by omega) h3
      obtain ⟨e, h6, h7⟩ := ih (i + 1) N s' (by omega) (by omega) h5
      exact ⟨e, by rw [loopN, h4]; exact h6, h7⟩
  exact key n 0 N s (by omega) hN h0
theorem i_div_nat {a b : Nat} (ha : a < 2147483648) (hb : b < 2147483648) : i_div a b = ((a / b : Nat) : Int) := by
  have h1 := Int32.toInt_div (Int32.ofInt a) (Int32.ofInt b)
  rw [show (Int32.ofInt (a : Int)).toInt = a from w32_of (by omega) (by omega), show (Int32.ofInt (b : Int)).toInt = b from w32_of (by omega) (by omega), ← Int.ofNat_tdiv] at h1
  unfold i_div
  rw [h1]
  have : a / b ≤ a := Nat.div_le_self a b
  generalize a / b = q at this
  exact Int.bmod_eq_of_le (by omega) (by omega)
theorem i_rem_nat {a b : Nat} (ha : a < 2147483648) (hb : b < 2147483648) : i_rem a b = ((a % b : Nat) : Int) := by
  have h1 := i_div_nat ha hb
  have h2 : Int32.ofInt (a : Int) / Int32.ofInt (b : Int) = Int32.ofInt ((a / b : Nat) : Int) := by
    rw [← h1]; exact (Int32.ofInt_toInt _).symm
  unfold i_rem
  rw [h2, ← Int32.ofInt_mul, ← Int32.ofInt_sub]
  have h3 := Nat.div_add_mod a b
  have h4 : (a : Int) - ((a / b : Nat) : Int) * b = ((a % b : Nat) : Int) := by
    have h5 : (a : Int) = b * ((a / b : Nat) : Int) + ((a % b : Nat) : Int) := by exact_mod_cast h3.symm
    rw [Int.mul_comm (((a / b : Nat) : Int)) b]
    omega
  rw [h4]
  exact w32_of (by omega) (by have := Nat.mod_le a b; omega)
theorem i_and_nonneg (x : Int) {m : Nat} (hm : m < 2147483648) : ∃ n : Nat, n ≤ m ∧ i_and x m = n := by
  refine ⟨((Int32.ofInt x &&& Int32.ofInt (m : Int)).toBitVec).toNat, ?_, ?_⟩
  · rw [Int32.toBitVec_and, BitVec.toNat_and, bv_nat hm]
    exact Nat.and_le_right
  · refine bv_int rfl ?_
    rw [Int32.toBitVec_and, BitVec.toNat_and, bv_nat hm]
    exact Nat.lt_of_le_of_lt Nat.and_le_right hm
