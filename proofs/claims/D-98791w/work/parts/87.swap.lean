set_option maxRecDepth 100000
/-! PLAIN 28: swap, drop, undo -/
variable {N : Nat} {K : Nat → Nat} {t t' z r o : Nat} {g gm g1 gm1 : GS} {a1 a2 a3 a4 a5 a6 v w : Int} {a : Ab} {rd : Rd} {p : Pl}
def swf (f : Nat → Nat) (i j : Nat) : Nat → Nat := fun k => if k = j then f i else if k = i then f j else f k
def dpf (f : Nat → Nat) (l : Nat) : Nat → Nat := fun k => if k < l then f k else f (k + 1)
theorem flips_eq {l n i j : Nat} (hi : i < n) (hj : j < n) (hn : n ≤ 1000) : xPlan_flips l n g i j = some (sA (sA g l i (gA g l j)) l j (gA g l i)) := by
  unfold xPlan_flips
  rw [rdA_nat hi (by omega), obind_some, rdA_nat hj (by omega), obind_some, wrA_nat hi (by omega), obind_some, wrA_nat hj (by omega), obind_some]
theorem s_swap (hN : 100000000000000000000 ≤ N) (hW : WFK K) (h : Inv N t K z g gm a) (h394 : 394 ≤ z) (ht : t < 64) (e1 : w32 a1 = a1) (e2 : w32 a2 = a2) : StepOK N t (lc_41 N K z g gm a1 a2 a3 a4 a5 a6) := by
  have hn := h.pok.n
  have hth := h.th h394
  by_cases hc : 0 ≤ a1 ∧ a1 < a.p.n
  · obtain ⟨i, rfl⟩ := nat_of hc.1
    have hi : i < a.p.n := by omega
    by_cases hd : 0 ≤ a2 ∧ a2 < a.p.n
    · obtain ⟨j, rfl⟩ := nat_of hd.1
      have hj : j < a.p.n := by omega
      by_cases hij : i = j
      · subst hij
        refine o_swap_v (v := 0) (w := 0) (g1 := g) (gm1 := sI gm 900 0 0) ?_ ?_ th0 rfl (h.val .refl .th h394)
        · unfold x_swap
          rw [x_lineOf_ok h hi, obind_some]
          dsimp only [thT]
          rw [x_lineOf_ok h hi, obind_some]
          dsimp only
          rw [if_neg (fun q => q rfl)]
        · unfold m_swap
          rw [m_isLine_ok h hi, obind_some, if_neg wz1]
          dsimp only
          rw [m_isLine_ok h hi, obind_some, if_pos wz1, if_neg (fun q => q rfl)]
      · have X : ∀ (res : Int × GS) (o : Option ((Nat × GS) ⊕ (Int × GS))), x_changes K g = some res → (if ¬ w32 res.1 = 0 then (xPlan_swaps 3 res.2 i j).bind fun c32 => some (.inr (1, c32)) else some (.inr ((-1), res.2))) = o → x_swap K g i j = o := by
          intro res o q1 q2
          unfold x_swap
          rw [x_lineOf_ok h hi, obind_some]
          dsimp only [thT]
          rw [x_lineOf_ok h hj, obind_some]
          dsimp only
          rw [if_pos (by rw [e1, e2]; omega), q1, obind_some]
          exact q2
        have Y : ∀ (res : Int × GS) (o : Option (Int × GS)), m_changes N (sI gm 900 0 0) = some res → (if ¬ w32 res.1 = 0 then loopN (fun s => m_swap_b43 N i j s.1 s.2) N (res.2, 0) else some ((-1), res.2)) = o → m_swap N gm i j = o := by
          intro res o q1 q2
          unfold m_swap
          rw [m_isLine_ok h hi, obind_some, if_neg wz1]
          dsimp only
          rw [m_isLine_ok h hj, obind_some, if_pos wz1, if_pos (by rw [e1, e2]; omega)]
          dsimp only
          rw [q1, obind_some]
          exact q2
        rcases changes_eq hN hW hth h394 with ⟨c1, c2, c3⟩ | ⟨g1, gm1, b1, c1, c2, c3, c4, c5, c6⟩
        · exact o_swap_v (v := -1) (w := -1) (X (0, g) _ c2 (if_neg wz0)) (Y (0, sI gm 900 0 0) _ c3 (if_neg wz0)) th0 rfl (h.val .refl .th h394)
        · have xp0 := c3.xp
          have mp0 := c3.mp
          rw [c4] at xp0 mp0
          obtain ⟨G, hG⟩ : ∃ G, G = sA (sA (sA (sA g1 4 i (gA g1 4 j)) 4 j (gA g1 4 i)) 5 i (gA g1 5 j)) 5 j (gA g1 5 i) := ⟨_, rfl⟩
          obtain ⟨H, hH⟩ : ∃ H, H = sA (sA (sA (sA gm1 26 (2 * i) (a.p.de j)) 26 (2 * j) (a.p.de i)) 26 (2 * i + 1) (a.p.wh j)) 26 (2 * j + 1) (a.p.wh i) := ⟨_, rfl⟩
          have d4 : ∀ k, k < a.p.n → gA g1 4 k = a.p.de k := xp0.de
          have d5 : ∀ k, k < a.p.n → gA g1 5 k = a.p.wh k := xp0.wh
          have xp : XPl 3 G (Pl.mk a.p.n (swf a.p.de i j) (swf a.p.wh i j)) := by
            refine XPl.mk (by subst hG; exact xp0.n) (fun k hk => ?_) (fun k hk => ?_)
            · show gA G 4 k = ((if k = j then a.p.de i else if k = i then a.p.de j else a.p.de k : Nat) : Int)
              subst hG
              rw [gA_sA, gA_sA, gA_sA, gA_sA]
              rw [if_neg (by omega), if_neg (by omega)]
              by_cases q : k = j
              · rw [if_pos ⟨rfl, q⟩, if_pos q, d4 i hi]
              · rw [if_neg (fun e => q e.2), if_neg q]
                by_cases q2 : k = i
                · rw [if_pos ⟨rfl, q2⟩, if_pos q2, d4 j hj]
                · rw [if_neg (fun e => q2 e.2), if_neg q2, d4 k hk]
            · show gA G 5 k = ((if k = j then a.p.wh i else if k = i then a.p.wh j else a.p.wh k : Nat) : Int)
              subst hG
              rw [gA_sA, gA_sA, gA_sA, gA_sA]
              by_cases q : k = j
              · rw [if_pos ⟨rfl, q⟩, if_pos q, d5 i hi]
              · rw [if_neg (fun e => q e.2), if_neg q]
                by_cases q2 : k = i
                · rw [if_pos ⟨rfl, q2⟩, if_pos q2, d5 j hj]
                · rw [if_neg (fun e => q2 e.2), if_neg (by omega), if_neg (by omega), if_neg q2, d5 k hk]
          have mp : MPl H (Pl.mk a.p.n (swf a.p.de i j) (swf a.p.wh i j)) := by
            refine MPl.mk (by subst hH; exact mp0.n) (fun k hk => ?_) (fun k hk => ?_)
            · show gA H 26 (2 * k) = ((if k = j then a.p.de i else if k = i then a.p.de j else a.p.de k : Nat) : Int)
              subst hH
              rw [gA_sA, gA_sA, gA_sA, gA_sA]
              rw [if_neg (by omega), if_neg (by omega)]
              by_cases q : k = j
              · rw [if_pos ⟨rfl, by omega⟩, if_pos q]
              · rw [if_neg (by omega), if_neg q]
                by_cases q2 : k = i
                · rw [if_pos ⟨rfl, by omega⟩, if_pos q2]
                · rw [if_neg (by omega), if_neg q2]; exact mp0.de k hk
            · show gA H 26 (2 * k + 1) = ((if k = j then a.p.wh i else if k = i then a.p.wh j else a.p.wh k : Nat) : Int)
              subst hH
              rw [gA_sA, gA_sA, gA_sA, gA_sA]
              by_cases q : k = j
              · rw [if_pos ⟨rfl, by omega⟩, if_pos q]
              · rw [if_neg (by omega), if_neg q]
                by_cases q2 : k = i
                · rw [if_pos ⟨rfl, by omega⟩, if_pos q2]
                · rw [if_neg (by omega), if_neg (by omega), if_neg (by omega), if_neg q2]; exact mp0.wh k hk
          have po : PlOK b1.rd (Pl.mk a.p.n (swf a.p.de i j) (swf a.p.wh i j)) := by
            rw [c5]
            refine PlOK.mk h.pok.n (fun k hk => ?_) (fun k hk => ?_) (fun k k' hk hk' => ?_)
            · show (if k = j then a.p.de i else if k = i then a.p.de j else a.p.de k) < a.rd.D
              split
              · exact h.pok.de i hi
              · split
                · exact h.pok.de j hj
                · exact h.pok.de k hk
            · show 1 ≤ (if k = j then a.p.wh i else if k = i then a.p.wh j else a.p.wh k) ∧ (if k = j then a.p.wh i else if k = i then a.p.wh j else a.p.wh k) < 2 ^ a.rd.P
              split
              · exact h.pok.wh i hi
              · split
                · exact h.pok.wh j hj
                · exact h.pok.wh k hk
            · have hk' : k' < a.p.n := hk'
              have ne : ∀ x y, x ≠ y → x < a.p.n → y < a.p.n → a.p.de x ≠ a.p.de y := fun x y hxy hx hy => by
                rcases Nat.lt_or_gt_of_ne hxy with q | q
                · exact h.pok.di x y q hy
                · exact (h.pok.di y x q hx).symm
              show (if k = j then a.p.de i else if k = i then a.p.de j else a.p.de k) ≠ (if k' = j then a.p.de i else if k' = i then a.p.de j else a.p.de k')
              split
              · split
                · omega
                · split
                  · exact ne i j (by omega) hi hj
                  · exact ne i k' (by omega) hi hk'
              · split
                · split
                  · exact ne j i (by omega) hj hi
                  · split
                    · omega
                    · exact ne j k' (by omega) hj hk'
                · split
                  · exact ne k i (by omega) (by omega) hi
                  · split
                    · exact ne k j (by omega) (by omega) hj
                    · exact ne k k' (by omega) (by omega) hk'
          obtain ⟨a', I⟩ := Inv.fin (v := w32 1) (c3.newp po xp mp (fun _ _ _ => by subst hG; rfl) (fun b k h1 h2 => by subst hG; simp only [gA_sA]; rw [if_neg (by omega), if_neg (by omega), if_neg (by omega), if_neg (by omega)]) (fun _ _ _ => by subst hH; rfl) (fun b k h1 => by subst hH; simp only [gA_sA]; rw [if_neg (by omega), if_neg (by omega), if_neg (by omega), if_neg (by omega)])) h394
          refine o_swap_v (v := 1) (w := 1) (X (1, g1) (some (.inr (1, G))) c1 ?_) (Y (1, gm1) (some (1, H)) c2 ?_) (by subst hH; exact c6) rfl I
          · rw [if_pos wz1]
            unfold xPlan_swaps
            rw [flips_eq (by omega) (by omega) (by omega), obind_some, flips_eq (by omega) (by omega) (by omega), obind_some, obind_some, hG]
            rfl
          · rw [if_pos wz1]
            refine loop_up' (N := N) (fun k => ((if k = 0 then gm1 else if k = 1 then sA (sA gm1 26 (2 * i) (a.p.de j)) 26 (2 * j) (a.p.de i) else H), (k : Int))) 2 _ rfl (fun k hk => ?_) ?_ (by omega)
            · have c : k = 0 ∨ k = 1 := by omega
              rcases c with rfl | rfl
              · unfold m_swap_b43
                dsimp only
                rw [if_neg (by decide), if_pos rfl, rdA_atv (mp0.de i hi) (by omega) (by omega) (by omega), obind_some, rdA_atv (mp0.de j hj) (by omega) (by omega) (by omega), obind_some, wrA_at (2 * i) (by omega) (by omega) (by omega), obind_some, wrA_at (2 * j) (by omega) (by omega) (by omega), obind_some]
                rfl
              · unfold m_swap_b43
                dsimp only
                rw [if_neg (by decide), if_neg (by decide), if_pos rfl, rdA_atv (k := 2 * i + 1) (v := a.p.wh i) (by simp only [gA_sA]; rw [if_neg (by omega), if_neg (by omega)]; exact mp0.wh i hi) (by omega) (by omega) (by omega), obind_some, rdA_atv (k := 2 * j + 1) (v := a.p.wh j) (by simp only [gA_sA]; rw [if_neg (by omega), if_neg (by omega)]; exact mp0.wh j hj) (by omega) (by omega) (by omega), obind_some, wrA_at (2 * i + 1) (by omega) (by omega) (by omega), obind_some, wrA_at (2 * j + 1) (by omega) (by omega) (by omega), obind_some, ← hH]
                rfl
            · unfold m_swap_b43
              dsimp only
              rw [if_pos (by decide)]
              rfl
    · refine o_swap_r0 (w := 0) ?_ ?_ h394 ht h
      · unfold x_swap
        rw [x_lineOf_ok h hi, obind_some]
        dsimp only [thT]
        rw [x_lineOf_no h e2 hd, obind_some]
      · unfold m_swap
        rw [m_isLine_ok h hi, obind_some, if_neg wz1]
        dsimp only
        rw [m_isLine_no h e2 hd, obind_some, if_neg wz0]
  · refine o_swap_r0 (w := 0) ?_ ?_ h394 ht h
    · unfold x_swap
      rw [x_lineOf_no h e1 hc, obind_some]
      rfl
    · unfold m_swap
      rw [m_isLine_no h e1 hc, obind_some, if_pos w32_z]
