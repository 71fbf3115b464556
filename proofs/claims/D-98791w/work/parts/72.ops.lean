set_option maxRecDepth 100000
/-! PLAIN 13: each kind of call: what is to be shown of its two methods (printed by plain/mkhelp.py) -/
variable {N : Nat} {K : Nat → Nat} {t z : Nat} {g gm g1 gm1 : GS} {a1 a2 a3 a4 a5 a6 : Int} {v w : Int} {a : Ab}
theorem o_told_v (hx : x_told K g a1 = some (.inr (v, g1))) (hm : m_told gm a1 = some (w, gm1)) (ht : gI gm1 900 0 = 0) (hv : w32 v = w32 w) (hI : Inv N (t + 1) K z (sA g1 393 0 (w32 v)) gm1 a) : StepOK N t (lc_6 N K z g gm a1 a2 a3 a4 a5 a6) := by
  have e : xLaw0_told 393 K z g a1 = some (0, (K, z, sA g1 393 0 (w32 v))) := by unfold xLaw0_told; rw [hx, obind_some]; dsimp only [thT]; rw [wrA_at (i := 0) 0 rfl (by omega) (by omega), obind_some]
  exact st_v e hm ht hv hI
theorem o_told_r1 (hx : x_told K g a1 = some (.inl (1, sA g 12 1 (gA g 12 1 + 1)))) (hm : m_told gm a1 = some (w, sA (sI (sI gm 900 0 0) 900 0 1) 1 1 (gA gm 1 1 + 1))) (h394 : 394 ≤ z) (ht : t < 64) (hI : Inv N t K z g gm a) : StepOK N t (lc_6 N K z g gm a1 a2 a3 a4 a5 a6) := by
  have hz := hI.zb
  have e : xLaw0_told 393 K z g a1 = some (1, (kE 1 K z, z + 1, sA g 12 1 (gA g 12 1 + 1))) := by unfold xLaw0_told; rw [hx, obind_some]; show lim (z + 1) _ = _; rw [lim_le (by omega)]; rfl
  exact st_r e hm (by decide) (by decide) (by omega) h394 ht hI
theorem o_deed_v (hx : x_deed K g a1 a2 = some (.inr (v, g1))) (hm : m_deed gm a1 a2 = some (w, gm1)) (ht : gI gm1 900 0 = 0) (hv : w32 v = w32 w) (hI : Inv N (t + 1) K z (sA g1 393 0 (w32 v)) gm1 a) : StepOK N t (lc_7 N K z g gm a1 a2 a3 a4 a5 a6) := by
  have e : xLaw0_deed 393 K z g a1 a2 = some (0, (K, z, sA g1 393 0 (w32 v))) := by unfold xLaw0_deed; rw [hx, obind_some]; dsimp only [thT]; rw [wrA_at (i := 0) 0 rfl (by omega) (by omega), obind_some]
  exact st_v e hm ht hv hI
theorem o_deed_r0 (hx : x_deed K g a1 a2 = some (.inl (0, sA g 12 0 (gA g 12 0 + 1)))) (hm : m_deed gm a1 a2 = some (w, sA (sI (sI gm 900 0 0) 900 0 1) 1 0 (gA gm 1 0 + 1))) (h394 : 394 ≤ z) (ht : t < 64) (hI : Inv N t K z g gm a) : StepOK N t (lc_7 N K z g gm a1 a2 a3 a4 a5 a6) := by
  have hz := hI.zb
  have e : xLaw0_deed 393 K z g a1 a2 = some (1, (kE 0 K z, z + 1, sA g 12 0 (gA g 12 0 + 1))) := by unfold xLaw0_deed; rw [hx, obind_some]; show lim (z + 1) _ = _; rw [lim_le (by omega)]; rfl
  exact st_r e hm (by decide) (by decide) (by omega) h394 ht hI
theorem o_deed_r1 (hx : x_deed K g a1 a2 = some (.inl (1, sA g 12 1 (gA g 12 1 + 1)))) (hm : m_deed gm a1 a2 = some (w, sA (sI (sI gm 900 0 0) 900 0 2) 1 1 (gA gm 1 1 + 1))) (h394 : 394 ≤ z) (ht : t < 64) (hI : Inv N t K z g gm a) : StepOK N t (lc_7 N K z g gm a1 a2 a3 a4 a5 a6) := by
  have hz := hI.zb
  have e : xLaw0_deed 393 K z g a1 a2 = some (2, (kE 1 K z, z + 1, sA g 12 1 (gA g 12 1 + 1))) := by unfold xLaw0_deed; rw [hx, obind_some]; show lim (z + 1) _ = _; rw [lim_le (by omega)]; rfl
  exact st_r e hm (by decide) (by decide) (by omega) h394 ht hI
theorem o_strong_v (hx : x_strong K g a1 = some (.inr (v, g1))) (hm : m_strong gm a1 = some (w, gm1)) (ht : gI gm1 900 0 = 0) (hv : w32 v = w32 w) (hI : Inv N (t + 1) K z (sA g1 393 0 (w32 v)) gm1 a) : StepOK N t (lc_8 N K z g gm a1 a2 a3 a4 a5 a6) := by
  have e : xLaw0_strong 393 K z g a1 = some (0, (K, z, sA g1 393 0 (w32 v))) := by unfold xLaw0_strong; rw [hx, obind_some]; dsimp only [thT]; rw [wrA_at (i := 0) 0 rfl (by omega) (by omega), obind_some]
  exact st_v e hm ht hv hI
theorem o_strong_r0 (hx : x_strong K g a1 = some (.inl (0, sA g 12 0 (gA g 12 0 + 1)))) (hm : m_strong gm a1 = some (w, sA (sI (sI gm 900 0 0) 900 0 1) 1 0 (gA gm 1 0 + 1))) (h394 : 394 ≤ z) (ht : t < 64) (hI : Inv N t K z g gm a) : StepOK N t (lc_8 N K z g gm a1 a2 a3 a4 a5 a6) := by
  have hz := hI.zb
  have e : xLaw0_strong 393 K z g a1 = some (1, (kE 0 K z, z + 1, sA g 12 0 (gA g 12 0 + 1))) := by unfold xLaw0_strong; rw [hx, obind_some]; show lim (z + 1) _ = _; rw [lim_le (by omega)]; rfl
  exact st_r e hm (by decide) (by decide) (by omega) h394 ht hI
theorem o_bears_v (hx : x_bears K g a1 = some (.inr (v, g1))) (hm : m_bears gm a1 = some (w, gm1)) (ht : gI gm1 900 0 = 0) (hv : w32 v = w32 w) (hI : Inv N (t + 1) K z (sA g1 393 0 (w32 v)) gm1 a) : StepOK N t (lc_9 N K z g gm a1 a2 a3 a4 a5 a6) := by
  have e : xLaw0_bears 393 K z g a1 = some (0, (K, z, sA g1 393 0 (w32 v))) := by unfold xLaw0_bears; rw [hx, obind_some]; dsimp only [thT]; rw [wrA_at (i := 0) 0 rfl (by omega) (by omega), obind_some]
  exact st_v e hm ht hv hI
theorem o_bears_r1 (hx : x_bears K g a1 = some (.inl (1, sA g 12 1 (gA g 12 1 + 1)))) (hm : m_bears gm a1 = some (w, sA (sI (sI gm 900 0 0) 900 0 1) 1 1 (gA gm 1 1 + 1))) (h394 : 394 ≤ z) (ht : t < 64) (hI : Inv N t K z g gm a) : StepOK N t (lc_9 N K z g gm a1 a2 a3 a4 a5 a6) := by
  have hz := hI.zb
  have e : xLaw0_bears 393 K z g a1 = some (1, (kE 1 K z, z + 1, sA g 12 1 (gA g 12 1 + 1))) := by unfold xLaw0_bears; rw [hx, obind_some]; show lim (z + 1) _ = _; rw [lim_le (by omega)]; rfl
  exact st_r e hm (by decide) (by decide) (by omega) h394 ht hI
theorem o_line_v (hx : x_line N K g a1 a2 = some (.inr (v, g1))) (hm : m_line N gm a1 a2 = some (w, gm1)) (ht : gI gm1 900 0 = 0) (hv : w32 v = w32 w) (hI : Inv N (t + 1) K z (sA g1 393 0 (w32 v)) gm1 a) : StepOK N t (lc_12 N K z g gm a1 a2 a3 a4 a5 a6) := by
  have e : xLaw0_line N 393 K z g a1 a2 = some (0, (K, z, sA g1 393 0 (w32 v))) := by unfold xLaw0_line; rw [hx, obind_some]; dsimp only [thT]; rw [wrA_at (i := 0) 0 rfl (by omega) (by omega), obind_some]
  exact st_v e hm ht hv hI
theorem o_line_r0 (hx : x_line N K g a1 a2 = some (.inl (0, sA g 12 0 (gA g 12 0 + 1)))) (hm : m_line N gm a1 a2 = some (w, sA (sI (sI gm 900 0 0) 900 0 1) 1 0 (gA gm 1 0 + 1))) (h394 : 394 ≤ z) (ht : t < 64) (hI : Inv N t K z g gm a) : StepOK N t (lc_12 N K z g gm a1 a2 a3 a4 a5 a6) := by
  have hz := hI.zb
  have e : xLaw0_line N 393 K z g a1 a2 = some (1, (kE 0 K z, z + 1, sA g 12 0 (gA g 12 0 + 1))) := by unfold xLaw0_line; rw [hx, obind_some]; show lim (z + 1) _ = _; rw [lim_le (by omega)]; rfl
  exact st_r e hm (by decide) (by decide) (by omega) h394 ht hI
theorem o_line_r1 (hx : x_line N K g a1 a2 = some (.inl (1, sA g 12 1 (gA g 12 1 + 1)))) (hm : m_line N gm a1 a2 = some (w, sA (sI (sI gm 900 0 0) 900 0 2) 1 1 (gA gm 1 1 + 1))) (h394 : 394 ≤ z) (ht : t < 64) (hI : Inv N t K z g gm a) : StepOK N t (lc_12 N K z g gm a1 a2 a3 a4 a5 a6) := by
  have hz := hI.zb
  have e : xLaw0_line N 393 K z g a1 a2 = some (2, (kE 1 K z, z + 1, sA g 12 1 (gA g 12 1 + 1))) := by unfold xLaw0_line; rw [hx, obind_some]; show lim (z + 1) _ = _; rw [lim_le (by omega)]; rfl
  exact st_r e hm (by decide) (by decide) (by omega) h394 ht hI
theorem o_wet_v (hx : x_wet N K g a1 = some (.inr (v, g1))) (hm : m_wet N gm a1 = some (w, gm1)) (ht : gI gm1 900 0 = 0) (hv : w32 v = w32 w) (hI : Inv N (t + 1) K z (sA g1 393 0 (w32 v)) gm1 a) : StepOK N t (lc_14 N K z g gm a1 a2 a3 a4 a5 a6) := by
  have e : xLaw0_wet N 393 K z g a1 = some (0, (K, z, sA g1 393 0 (w32 v))) := by unfold xLaw0_wet; rw [hx, obind_some]; dsimp only [thT]; rw [wrA_at (i := 0) 0 rfl (by omega) (by omega), obind_some]
  exact st_v e hm ht hv hI
theorem o_wet_r0 (hx : x_wet N K g a1 = some (.inl (0, sA g 12 0 (gA g 12 0 + 1)))) (hm : m_wet N gm a1 = some (w, sA (sI (sI gm 900 0 0) 900 0 1) 1 0 (gA gm 1 0 + 1))) (h394 : 394 ≤ z) (ht : t < 64) (hI : Inv N t K z g gm a) : StepOK N t (lc_14 N K z g gm a1 a2 a3 a4 a5 a6) := by
  have hz := hI.zb
  have e : xLaw0_wet N 393 K z g a1 = some (1, (kE 0 K z, z + 1, sA g 12 0 (gA g 12 0 + 1))) := by unfold xLaw0_wet; rw [hx, obind_some]; show lim (z + 1) _ = _; rw [lim_le (by omega)]; rfl
  exact st_r e hm (by decide) (by decide) (by omega) h394 ht hI
theorem o_idle_v (hx : x_idle N K g a1 = some (.inr (v, g1))) (hm : m_idle N gm a1 = some (w, gm1)) (ht : gI gm1 900 0 = 0) (hv : w32 v = w32 w) (hI : Inv N (t + 1) K z (sA g1 393 0 (w32 v)) gm1 a) : StepOK N t (lc_15 N K z g gm a1 a2 a3 a4 a5 a6) := by
  have e : xLaw0_idle N 393 K z g a1 = some (0, (K, z, sA g1 393 0 (w32 v))) := by unfold xLaw0_idle; rw [hx, obind_some]; dsimp only [thT]; rw [wrA_at (i := 0) 0 rfl (by omega) (by omega), obind_some]
  exact st_v e hm ht hv hI
theorem o_idle_r0 (hx : x_idle N K g a1 = some (.inl (0, sA g 12 0 (gA g 12 0 + 1)))) (hm : m_idle N gm a1 = some (w, sA (sI (sI gm 900 0 0) 900 0 1) 1 0 (gA gm 1 0 + 1))) (h394 : 394 ≤ z) (ht : t < 64) (hI : Inv N t K z g gm a) : StepOK N t (lc_15 N K z g gm a1 a2 a3 a4 a5 a6) := by
  have hz := hI.zb
  have e : xLaw0_idle N 393 K z g a1 = some (1, (kE 0 K z, z + 1, sA g 12 0 (gA g 12 0 + 1))) := by unfold xLaw0_idle; rw [hx, obind_some]; show lim (z + 1) _ = _; rw [lim_le (by omega)]; rfl
  exact st_r e hm (by decide) (by decide) (by omega) h394 ht hI
theorem o_slack_v (hx : x_slack N K g a1 = some (.inr (v, g1))) (hm : m_slack N gm a1 = some (w, gm1)) (ht : gI gm1 900 0 = 0) (hv : w32 v = w32 w) (hI : Inv N (t + 1) K z (sA g1 393 0 (w32 v)) gm1 a) : StepOK N t (lc_17 N K z g gm a1 a2 a3 a4 a5 a6) := by
  have e : xLaw0_slack N 393 K z g a1 = some (0, (K, z, sA g1 393 0 (w32 v))) := by unfold xLaw0_slack; rw [hx, obind_some]; dsimp only [thT]; rw [wrA_at (i := 0) 0 rfl (by omega) (by omega), obind_some]
  exact st_v e hm ht hv hI
theorem o_slack_r0 (hx : x_slack N K g a1 = some (.inl (0, sA g 12 0 (gA g 12 0 + 1)))) (hm : m_slack N gm a1 = some (w, sA (sI (sI gm 900 0 0) 900 0 1) 1 0 (gA gm 1 0 + 1))) (h394 : 394 ≤ z) (ht : t < 64) (hI : Inv N t K z g gm a) : StepOK N t (lc_17 N K z g gm a1 a2 a3 a4 a5 a6) := by
  have hz := hI.zb
  have e : xLaw0_slack N 393 K z g a1 = some (1, (kE 0 K z, z + 1, sA g 12 0 (gA g 12 0 + 1))) := by unfold xLaw0_slack; rw [hx, obind_some]; show lim (z + 1) _ = _; rw [lim_le (by omega)]; rfl
  exact st_r e hm (by decide) (by decide) (by omega) h394 ht hI
theorem o_ahead_v (hx : x_ahead N K g a1 = some (.inr (v, g1))) (hm : m_ahead N gm a1 = some (w, gm1)) (ht : gI gm1 900 0 = 0) (hv : w32 v = w32 w) (hI : Inv N (t + 1) K z (sA g1 393 0 (w32 v)) gm1 a) : StepOK N t (lc_19 N K z g gm a1 a2 a3 a4 a5 a6) := by
  have e : xLaw0_ahead N 393 K z g a1 = some (0, (K, z, sA g1 393 0 (w32 v))) := by unfold xLaw0_ahead; rw [hx, obind_some]; dsimp only [thT]; rw [wrA_at (i := 0) 0 rfl (by omega) (by omega), obind_some]
  exact st_v e hm ht hv hI
theorem o_ahead_r0 (hx : x_ahead N K g a1 = some (.inl (0, sA g 12 0 (gA g 12 0 + 1)))) (hm : m_ahead N gm a1 = some (w, sA (sI (sI gm 900 0 0) 900 0 1) 1 0 (gA gm 1 0 + 1))) (h394 : 394 ≤ z) (ht : t < 64) (hI : Inv N t K z g gm a) : StepOK N t (lc_19 N K z g gm a1 a2 a3 a4 a5 a6) := by
  have hz := hI.zb
  have e : xLaw0_ahead N 393 K z g a1 = some (1, (kE 0 K z, z + 1, sA g 12 0 (gA g 12 0 + 1))) := by unfold xLaw0_ahead; rw [hx, obind_some]; show lim (z + 1) _ = _; rw [lim_le (by omega)]; rfl
  exact st_r e hm (by decide) (by decide) (by omega) h394 ht hI
theorem o_chain_v (hx : x_chain N K g a1 = some (.inr (v, g1))) (hm : m_chain N gm a1 = some (w, gm1)) (ht : gI gm1 900 0 = 0) (hv : w32 v = w32 w) (hI : Inv N (t + 1) K z (sA g1 393 0 (w32 v)) gm1 a) : StepOK N t (lc_20 N K z g gm a1 a2 a3 a4 a5 a6) := by
  have e : xLaw0_chain N 393 K z g a1 = some (0, (K, z, sA g1 393 0 (w32 v))) := by unfold xLaw0_chain; rw [hx, obind_some]; dsimp only [thT]; rw [wrA_at (i := 0) 0 rfl (by omega) (by omega), obind_some]
  exact st_v e hm ht hv hI
theorem o_chain_r0 (hx : x_chain N K g a1 = some (.inl (0, sA g 12 0 (gA g 12 0 + 1)))) (hm : m_chain N gm a1 = some (w, sA (sI (sI gm 900 0 0) 900 0 1) 1 0 (gA gm 1 0 + 1))) (h394 : 394 ≤ z) (ht : t < 64) (hI : Inv N t K z g gm a) : StepOK N t (lc_20 N K z g gm a1 a2 a3 a4 a5 a6) := by
  have hz := hI.zb
  have e : xLaw0_chain N 393 K z g a1 = some (1, (kE 0 K z, z + 1, sA g 12 0 (gA g 12 0 + 1))) := by unfold xLaw0_chain; rw [hx, obind_some]; show lim (z + 1) _ = _; rw [lim_le (by omega)]; rfl
  exact st_r e hm (by decide) (by decide) (by omega) h394 ht hI
theorem o_soonest_v (hx : x_soonest N K g a1 = some (.inr (v, g1))) (hm : m_soonest N gm a1 = some (w, gm1)) (ht : gI gm1 900 0 = 0) (hv : w32 v = w32 w) (hI : Inv N (t + 1) K z (sA g1 393 0 (w32 v)) gm1 a) : StepOK N t (lc_21 N K z g gm a1 a2 a3 a4 a5 a6) := by
  have e : xLaw0_soonest N 393 K z g a1 = some (0, (K, z, sA g1 393 0 (w32 v))) := by unfold xLaw0_soonest; rw [hx, obind_some]; dsimp only [thT]; rw [wrA_at (i := 0) 0 rfl (by omega) (by omega), obind_some]
  exact st_v e hm ht hv hI
theorem o_soonest_r1 (hx : x_soonest N K g a1 = some (.inl (1, sA g 12 1 (gA g 12 1 + 1)))) (hm : m_soonest N gm a1 = some (w, sA (sI (sI gm 900 0 0) 900 0 1) 1 1 (gA gm 1 1 + 1))) (h394 : 394 ≤ z) (ht : t < 64) (hI : Inv N t K z g gm a) : StepOK N t (lc_21 N K z g gm a1 a2 a3 a4 a5 a6) := by
  have hz := hI.zb
  have e : xLaw0_soonest N 393 K z g a1 = some (1, (kE 1 K z, z + 1, sA g 12 1 (gA g 12 1 + 1))) := by unfold xLaw0_soonest; rw [hx, obind_some]; show lim (z + 1) _ = _; rw [lim_le (by omega)]; rfl
  exact st_r e hm (by decide) (by decide) (by omega) h394 ht hI
theorem o_soonest_r2 (hx : x_soonest N K g a1 = some (.inl (2, sA g 12 2 (gA g 12 2 + 1)))) (hm : m_soonest N gm a1 = some (w, sA (sI (sI gm 900 0 0) 900 0 2) 1 2 (gA gm 1 2 + 1))) (h394 : 394 ≤ z) (ht : t < 64) (hI : Inv N t K z g gm a) : StepOK N t (lc_21 N K z g gm a1 a2 a3 a4 a5 a6) := by
  have hz := hI.zb
  have e : xLaw0_soonest N 393 K z g a1 = some (2, (kE 2 K z, z + 1, sA g 12 2 (gA g 12 2 + 1))) := by unfold xLaw0_soonest; rw [hx, obind_some]; show lim (z + 1) _ = _; rw [lim_le (by omega)]; rfl
  exact st_r e hm (by decide) (by decide) (by omega) h394 ht hI
theorem o_first_v (hx : x_first N K g a1 = some (.inr (v, g1))) (hm : m_first N gm a1 = some (w, gm1)) (ht : gI gm1 900 0 = 0) (hv : w32 v = w32 w) (hI : Inv N (t + 1) K z (sA g1 393 0 (w32 v)) gm1 a) : StepOK N t (lc_22 N K z g gm a1 a2 a3 a4 a5 a6) := by
  have e : xLaw0_first N 393 K z g a1 = some (0, (K, z, sA g1 393 0 (w32 v))) := by unfold xLaw0_first; rw [hx, obind_some]; dsimp only [thT]; rw [wrA_at (i := 0) 0 rfl (by omega) (by omega), obind_some]
  exact st_v e hm ht hv hI
theorem o_first_r1 (hx : x_first N K g a1 = some (.inl (1, sA g 12 1 (gA g 12 1 + 1)))) (hm : m_first N gm a1 = some (w, sA (sI (sI gm 900 0 0) 900 0 1) 1 1 (gA gm 1 1 + 1))) (h394 : 394 ≤ z) (ht : t < 64) (hI : Inv N t K z g gm a) : StepOK N t (lc_22 N K z g gm a1 a2 a3 a4 a5 a6) := by
  have hz := hI.zb
  have e : xLaw0_first N 393 K z g a1 = some (1, (kE 1 K z, z + 1, sA g 12 1 (gA g 12 1 + 1))) := by unfold xLaw0_first; rw [hx, obind_some]; show lim (z + 1) _ = _; rw [lim_le (by omega)]; rfl
  exact st_r e hm (by decide) (by decide) (by omega) h394 ht hI
theorem o_first_r2 (hx : x_first N K g a1 = some (.inl (2, sA g 12 2 (gA g 12 2 + 1)))) (hm : m_first N gm a1 = some (w, sA (sI (sI gm 900 0 0) 900 0 2) 1 2 (gA gm 1 2 + 1))) (h394 : 394 ≤ z) (ht : t < 64) (hI : Inv N t K z g gm a) : StepOK N t (lc_22 N K z g gm a1 a2 a3 a4 a5 a6) := by
  have hz := hI.zb
  have e : xLaw0_first N 393 K z g a1 = some (2, (kE 2 K z, z + 1, sA g 12 2 (gA g 12 2 + 1))) := by unfold xLaw0_first; rw [hx, obind_some]; show lim (z + 1) _ = _; rw [lim_le (by omega)]; rfl
  exact st_r e hm (by decide) (by decide) (by omega) h394 ht hI
theorem o_sinks_v (hx : x_sinks N K g a1 a2 a3 = some (.inr (v, g1))) (hm : m_sinks N gm a1 a2 a3 = some (w, gm1)) (ht : gI gm1 900 0 = 0) (hv : w32 v = w32 w) (hI : Inv N (t + 1) K z (sA g1 393 0 (w32 v)) gm1 a) : StepOK N t (lc_23 N K z g gm a1 a2 a3 a4 a5 a6) := by
  have e : xLaw0_sinks N 393 K z g a1 a2 a3 = some (0, (K, z, sA g1 393 0 (w32 v))) := by unfold xLaw0_sinks; rw [hx, obind_some]; dsimp only [thT]; rw [wrA_at (i := 0) 0 rfl (by omega) (by omega), obind_some]
  exact st_v e hm ht hv hI
theorem o_sinks_r1 (hx : x_sinks N K g a1 a2 a3 = some (.inl (1, sA g 12 1 (gA g 12 1 + 1)))) (hm : m_sinks N gm a1 a2 a3 = some (w, sA (sI (sI gm 900 0 0) 900 0 1) 1 1 (gA gm 1 1 + 1))) (h394 : 394 ≤ z) (ht : t < 64) (hI : Inv N t K z g gm a) : StepOK N t (lc_23 N K z g gm a1 a2 a3 a4 a5 a6) := by
  have hz := hI.zb
  have e : xLaw0_sinks N 393 K z g a1 a2 a3 = some (1, (kE 1 K z, z + 1, sA g 12 1 (gA g 12 1 + 1))) := by unfold xLaw0_sinks; rw [hx, obind_some]; show lim (z + 1) _ = _; rw [lim_le (by omega)]; rfl
  exact st_r e hm (by decide) (by decide) (by omega) h394 ht hI
theorem o_under_v (hx : x_under N K g a1 a2 a3 = some (.inr (v, g1))) (hm : m_under N gm a1 a2 a3 = some (w, gm1)) (ht : gI gm1 900 0 = 0) (hv : w32 v = w32 w) (hI : Inv N (t + 1) K z (sA g1 393 0 (w32 v)) gm1 a) : StepOK N t (lc_24 N K z g gm a1 a2 a3 a4 a5 a6) := by
  have e : xLaw0_under N 393 K z g a1 a2 a3 = some (0, (K, z, sA g1 393 0 (w32 v))) := by unfold xLaw0_under; rw [hx, obind_some]; dsimp only [thT]; rw [wrA_at (i := 0) 0 rfl (by omega) (by omega), obind_some]
  exact st_v e hm ht hv hI
theorem o_under_r1 (hx : x_under N K g a1 a2 a3 = some (.inl (1, sA g 12 1 (gA g 12 1 + 1)))) (hm : m_under N gm a1 a2 a3 = some (w, sA (sI (sI gm 900 0 0) 900 0 1) 1 1 (gA gm 1 1 + 1))) (h394 : 394 ≤ z) (ht : t < 64) (hI : Inv N t K z g gm a) : StepOK N t (lc_24 N K z g gm a1 a2 a3 a4 a5 a6) := by
  have hz := hI.zb
  have e : xLaw0_under N 393 K z g a1 a2 a3 = some (1, (kE 1 K z, z + 1, sA g 12 1 (gA g 12 1 + 1))) := by unfold xLaw0_under; rw [hx, obind_some]; show lim (z + 1) _ = _; rw [lim_le (by omega)]; rfl
  exact st_r e hm (by decide) (by decide) (by omega) h394 ht hI
theorem o_push_v (hx : x_push N K g a1 a2 a3 a4 = some (.inr (v, g1))) (hm : m_push N gm a1 a2 a3 a4 = some (w, gm1)) (ht : gI gm1 900 0 = 0) (hv : w32 v = w32 w) (hI : Inv N (t + 1) K z (sA g1 393 0 (w32 v)) gm1 a) : StepOK N t (lc_25 N K z g gm a1 a2 a3 a4 a5 a6) := by
  have e : xLaw0_push N 393 K z g a1 a2 a3 a4 = some (0, (K, z, sA g1 393 0 (w32 v))) := by unfold xLaw0_push; rw [hx, obind_some]; dsimp only [thT]; rw [wrA_at (i := 0) 0 rfl (by omega) (by omega), obind_some]
  exact st_v e hm ht hv hI
theorem o_push_r1 (hx : x_push N K g a1 a2 a3 a4 = some (.inl (1, sA g 12 1 (gA g 12 1 + 1)))) (hm : m_push N gm a1 a2 a3 a4 = some (w, sA (sI (sI gm 900 0 0) 900 0 1) 1 1 (gA gm 1 1 + 1))) (h394 : 394 ≤ z) (ht : t < 64) (hI : Inv N t K z g gm a) : StepOK N t (lc_25 N K z g gm a1 a2 a3 a4 a5 a6) := by
  have hz := hI.zb
  have e : xLaw0_push N 393 K z g a1 a2 a3 a4 = some (1, (kE 1 K z, z + 1, sA g 12 1 (gA g 12 1 + 1))) := by unfold xLaw0_push; rw [hx, obind_some]; show lim (z + 1) _ = _; rw [lim_le (by omega)]; rfl
  exact st_r e hm (by decide) (by decide) (by omega) h394 ht hI
theorem o_tries_v (hx : x_tries N K g a1 a2 a3 a4 = some (.inr (v, g1))) (hm : m_tries N gm a1 a2 a3 a4 = some (w, gm1)) (ht : gI gm1 900 0 = 0) (hv : v = w) (hI : Inv N (t + 1) K z (sA g1 393 0 v) gm1 a) : StepOK N t (lc_26 N K z g gm a1 a2 a3 a4 a5 a6) := by
  have e : xLaw0_tries N 393 K z g a1 a2 a3 a4 = some (0, (K, z, sA g1 393 0 v)) := by unfold xLaw0_tries; rw [hx, obind_some]; dsimp only [thT]; rw [wrA_at (i := 0) 0 rfl (by omega) (by omega), obind_some]
  exact st_vL e hm ht hv hI
theorem o_tries_r0 (hx : x_tries N K g a1 a2 a3 a4 = some (.inl (0, sA g 12 0 (gA g 12 0 + 1)))) (hm : m_tries N gm a1 a2 a3 a4 = some (w, sA (sI (sI gm 900 0 0) 900 0 1) 1 0 (gA gm 1 0 + 1))) (h394 : 394 ≤ z) (ht : t < 64) (hI : Inv N t K z g gm a) : StepOK N t (lc_26 N K z g gm a1 a2 a3 a4 a5 a6) := by
  have hz := hI.zb
  have e : xLaw0_tries N 393 K z g a1 a2 a3 a4 = some (1, (kE 0 K z, z + 1, sA g 12 0 (gA g 12 0 + 1))) := by unfold xLaw0_tries; rw [hx, obind_some]; show lim (z + 1) _ = _; rw [lim_le (by omega)]; rfl
  exact st_rL e hm (by decide) (by decide) (by omega) h394 ht hI
theorem o_tries_r1 (hx : x_tries N K g a1 a2 a3 a4 = some (.inl (1, sA g 12 1 (gA g 12 1 + 1)))) (hm : m_tries N gm a1 a2 a3 a4 = some (w, sA (sI (sI gm 900 0 0) 900 0 2) 1 1 (gA gm 1 1 + 1))) (h394 : 394 ≤ z) (ht : t < 64) (hI : Inv N t K z g gm a) : StepOK N t (lc_26 N K z g gm a1 a2 a3 a4 a5 a6) := by
  have hz := hI.zb
  have e : xLaw0_tries N 393 K z g a1 a2 a3 a4 = some (2, (kE 1 K z, z + 1, sA g 12 1 (gA g 12 1 + 1))) := by unfold xLaw0_tries; rw [hx, obind_some]; show lim (z + 1) _ = _; rw [lim_le (by omega)]; rfl
  exact st_rL e hm (by decide) (by decide) (by omega) h394 ht hI
theorem o_half_v (hx : x_half N K g a1 a2 = some (.inr (v, g1))) (hm : m_half N gm a1 a2 = some (w, gm1)) (ht : gI gm1 900 0 = 0) (hv : w32 v = w32 w) (hI : Inv N (t + 1) K z (sA g1 393 0 (w32 v)) gm1 a) : StepOK N t (lc_27 N K z g gm a1 a2 a3 a4 a5 a6) := by
  have e : xLaw0_half N 393 K z g a1 a2 = some (0, (K, z, sA g1 393 0 (w32 v))) := by unfold xLaw0_half; rw [hx, obind_some]; dsimp only [thT]; rw [wrA_at (i := 0) 0 rfl (by omega) (by omega), obind_some]
  exact st_v e hm ht hv hI
theorem o_half_r0 (hx : x_half N K g a1 a2 = some (.inl (0, sA g 12 0 (gA g 12 0 + 1)))) (hm : m_half N gm a1 a2 = some (w, sA (sI (sI gm 900 0 0) 900 0 1) 1 0 (gA gm 1 0 + 1))) (h394 : 394 ≤ z) (ht : t < 64) (hI : Inv N t K z g gm a) : StepOK N t (lc_27 N K z g gm a1 a2 a3 a4 a5 a6) := by
  have hz := hI.zb
  have e : xLaw0_half N 393 K z g a1 a2 = some (1, (kE 0 K z, z + 1, sA g 12 0 (gA g 12 0 + 1))) := by unfold xLaw0_half; rw [hx, obind_some]; show lim (z + 1) _ = _; rw [lim_le (by omega)]; rfl
  exact st_r e hm (by decide) (by decide) (by omega) h394 ht hI
theorem o_half_r1 (hx : x_half N K g a1 a2 = some (.inl (1, sA g 12 1 (gA g 12 1 + 1)))) (hm : m_half N gm a1 a2 = some (w, sA (sI (sI gm 900 0 0) 900 0 2) 1 1 (gA gm 1 1 + 1))) (h394 : 394 ≤ z) (ht : t < 64) (hI : Inv N t K z g gm a) : StepOK N t (lc_27 N K z g gm a1 a2 a3 a4 a5 a6) := by
  have hz := hI.zb
  have e : xLaw0_half N 393 K z g a1 a2 = some (2, (kE 1 K z, z + 1, sA g 12 1 (gA g 12 1 + 1))) := by unfold xLaw0_half; rw [hx, obind_some]; show lim (z + 1) _ = _; rw [lim_le (by omega)]; rfl
  exact st_r e hm (by decide) (by decide) (by omega) h394 ht hI
theorem o_easiest_v (hx : x_easiest N K g a1 = some (.inr (v, g1))) (hm : m_easiest N gm a1 = some (w, gm1)) (ht : gI gm1 900 0 = 0) (hv : w32 v = w32 w) (hI : Inv N (t + 1) K z (sA g1 393 0 (w32 v)) gm1 a) : StepOK N t (lc_28 N K z g gm a1 a2 a3 a4 a5 a6) := by
  have e : xLaw0_easiest N 393 K z g a1 = some (0, (K, z, sA g1 393 0 (w32 v))) := by unfold xLaw0_easiest; rw [hx, obind_some]; dsimp only [thT]; rw [wrA_at (i := 0) 0 rfl (by omega) (by omega), obind_some]
  exact st_v e hm ht hv hI
theorem o_easiest_r1 (hx : x_easiest N K g a1 = some (.inl (1, sA g 12 1 (gA g 12 1 + 1)))) (hm : m_easiest N gm a1 = some (w, sA (sI (sI gm 900 0 0) 900 0 1) 1 1 (gA gm 1 1 + 1))) (h394 : 394 ≤ z) (ht : t < 64) (hI : Inv N t K z g gm a) : StepOK N t (lc_28 N K z g gm a1 a2 a3 a4 a5 a6) := by
  have hz := hI.zb
  have e : xLaw0_easiest N 393 K z g a1 = some (1, (kE 1 K z, z + 1, sA g 12 1 (gA g 12 1 + 1))) := by unfold xLaw0_easiest; rw [hx, obind_some]; show lim (z + 1) _ = _; rw [lim_le (by omega)]; rfl
  exact st_r e hm (by decide) (by decide) (by omega) h394 ht hI
theorem o_waits_v (hx : x_waits N K g a1 a2 a3 a4 = some (.inr (v, g1))) (hm : m_waits N gm a1 a2 a3 a4 = some (w, gm1)) (ht : gI gm1 900 0 = 0) (hv : v = w) (hI : Inv N (t + 1) K z (sA g1 393 0 v) gm1 a) : StepOK N t (lc_29 N K z g gm a1 a2 a3 a4 a5 a6) := by
  have e : xLaw0_waits N 393 K z g a1 a2 a3 a4 = some (0, (K, z, sA g1 393 0 v)) := by unfold xLaw0_waits; rw [hx, obind_some]; dsimp only [thT]; rw [wrA_at (i := 0) 0 rfl (by omega) (by omega), obind_some]
  exact st_vL e hm ht hv hI
theorem o_waits_r1 (hx : x_waits N K g a1 a2 a3 a4 = some (.inl (1, sA g 12 1 (gA g 12 1 + 1)))) (hm : m_waits N gm a1 a2 a3 a4 = some (w, sA (sI (sI gm 900 0 0) 900 0 1) 1 1 (gA gm 1 1 + 1))) (h394 : 394 ≤ z) (ht : t < 64) (hI : Inv N t K z g gm a) : StepOK N t (lc_29 N K z g gm a1 a2 a3 a4 a5 a6) := by
  have hz := hI.zb
  have e : xLaw0_waits N 393 K z g a1 a2 a3 a4 = some (1, (kE 1 K z, z + 1, sA g 12 1 (gA g 12 1 + 1))) := by unfold xLaw0_waits; rw [hx, obind_some]; show lim (z + 1) _ = _; rw [lim_le (by omega)]; rfl
  exact st_rL e hm (by decide) (by decide) (by omega) h394 ht hI
theorem o_await_v (hx : x_await N K g a1 a2 = some (.inr (v, g1))) (hm : m_await N gm a1 a2 = some (w, gm1)) (ht : gI gm1 900 0 = 0) (hv : w32 v = w32 w) (hI : Inv N (t + 1) K z (sA g1 393 0 (w32 v)) gm1 a) : StepOK N t (lc_30 N K z g gm a1 a2 a3 a4 a5 a6) := by
  have e : xLaw0_await N 393 K z g a1 a2 = some (0, (K, z, sA g1 393 0 (w32 v))) := by unfold xLaw0_await; rw [hx, obind_some]; dsimp only [thT]; rw [wrA_at (i := 0) 0 rfl (by omega) (by omega), obind_some]
  exact st_v e hm ht hv hI
theorem o_await_r1 (hx : x_await N K g a1 a2 = some (.inl (1, sA g 12 1 (gA g 12 1 + 1)))) (hm : m_await N gm a1 a2 = some (w, sA (sI (sI gm 900 0 0) 900 0 1) 1 1 (gA gm 1 1 + 1))) (h394 : 394 ≤ z) (ht : t < 64) (hI : Inv N t K z g gm a) : StepOK N t (lc_30 N K z g gm a1 a2 a3 a4 a5 a6) := by
  have hz := hI.zb
  have e : xLaw0_await N 393 K z g a1 a2 = some (1, (kE 1 K z, z + 1, sA g 12 1 (gA g 12 1 + 1))) := by unfold xLaw0_await; rw [hx, obind_some]; show lim (z + 1) _ = _; rw [lim_le (by omega)]; rfl
  exact st_r e hm (by decide) (by decide) (by omega) h394 ht hI
theorem o_cross_v (hx : x_cross N g a1 a2 = some (.inr (v, g1))) (hm : m_cross N gm a1 a2 = some (w, gm1)) (ht : gI gm1 900 0 = 0) (hv : w32 v = w32 w) (hI : Inv N (t + 1) K z (sA g1 393 0 (w32 v)) gm1 a) : StepOK N t (lc_31 N K z g gm a1 a2 a3 a4 a5 a6) := by
  have e : xLaw0_cross N 393 K z g a1 a2 = some (0, (K, z, sA g1 393 0 (w32 v))) := by unfold xLaw0_cross; rw [hx, obind_some]; dsimp only [thT]; rw [wrA_at (i := 0) 0 rfl (by omega) (by omega), obind_some]
  exact st_v e hm ht hv hI
theorem o_cross_r1 (hx : x_cross N g a1 a2 = some (.inl (1, sA g 12 1 (gA g 12 1 + 1)))) (hm : m_cross N gm a1 a2 = some (w, sA (sI (sI gm 900 0 0) 900 0 1) 1 1 (gA gm 1 1 + 1))) (h394 : 394 ≤ z) (ht : t < 64) (hI : Inv N t K z g gm a) : StepOK N t (lc_31 N K z g gm a1 a2 a3 a4 a5 a6) := by
  have hz := hI.zb
  have e : xLaw0_cross N 393 K z g a1 a2 = some (1, (kE 1 K z, z + 1, sA g 12 1 (gA g 12 1 + 1))) := by unfold xLaw0_cross; rw [hx, obind_some]; show lim (z + 1) _ = _; rw [lim_le (by omega)]; rfl
  exact st_r e hm (by decide) (by decide) (by omega) h394 ht hI
theorem o_crooked_v (hx : x_crooked N g a1 = some (.inr (v, g1))) (hm : m_crooked N gm a1 = some (w, gm1)) (ht : gI gm1 900 0 = 0) (hv : w32 v = w32 w) (hI : Inv N (t + 1) K z (sA g1 393 0 (w32 v)) gm1 a) : StepOK N t (lc_32 N K z g gm a1 a2 a3 a4 a5 a6) := by
  have e : xLaw0_crooked N 393 K z g a1 = some (0, (K, z, sA g1 393 0 (w32 v))) := by unfold xLaw0_crooked; rw [hx, obind_some]; dsimp only [thT]; rw [wrA_at (i := 0) 0 rfl (by omega) (by omega), obind_some]
  exact st_v e hm ht hv hI
theorem o_crooked_r1 (hx : x_crooked N g a1 = some (.inl (1, sA g 12 1 (gA g 12 1 + 1)))) (hm : m_crooked N gm a1 = some (w, sA (sI (sI gm 900 0 0) 900 0 1) 1 1 (gA gm 1 1 + 1))) (h394 : 394 ≤ z) (ht : t < 64) (hI : Inv N t K z g gm a) : StepOK N t (lc_32 N K z g gm a1 a2 a3 a4 a5 a6) := by
  have hz := hI.zb
  have e : xLaw0_crooked N 393 K z g a1 = some (1, (kE 1 K z, z + 1, sA g 12 1 (gA g 12 1 + 1))) := by unfold xLaw0_crooked; rw [hx, obind_some]; show lim (z + 1) _ = _; rw [lim_le (by omega)]; rfl
  exact st_r e hm (by decide) (by decide) (by omega) h394 ht hI
theorem o_share_v (hx : x_share g a1 = some (.inr (v, g1))) (hm : m_share gm a1 = some (w, gm1)) (ht : gI gm1 900 0 = 0) (hv : w32 v = w32 w) (hI : Inv N (t + 1) K z (sA g1 393 0 (w32 v)) gm1 a) : StepOK N t (lc_33 N K z g gm a1 a2 a3 a4 a5 a6) := by
  have e : xLaw0_share 393 K z g a1 = some (0, (K, z, sA g1 393 0 (w32 v))) := by unfold xLaw0_share; rw [hx, obind_some]; dsimp only [thT]; rw [wrA_at (i := 0) 0 rfl (by omega) (by omega), obind_some]
  exact st_v e hm ht hv hI
theorem o_share_r1 (hx : x_share g a1 = some (.inl (1, sA g 12 1 (gA g 12 1 + 1)))) (hm : m_share gm a1 = some (w, sA (sI (sI gm 900 0 0) 900 0 1) 1 1 (gA gm 1 1 + 1))) (h394 : 394 ≤ z) (ht : t < 64) (hI : Inv N t K z g gm a) : StepOK N t (lc_33 N K z g gm a1 a2 a3 a4 a5 a6) := by
  have hz := hI.zb
  have e : xLaw0_share 393 K z g a1 = some (1, (kE 1 K z, z + 1, sA g 12 1 (gA g 12 1 + 1))) := by unfold xLaw0_share; rw [hx, obind_some]; show lim (z + 1) _ = _; rw [lim_le (by omega)]; rfl
  exact st_r e hm (by decide) (by decide) (by omega) h394 ht hI
theorem o_drive_v (hx : x_drive N K g a1 = some (.inr (v, g1))) (hm : m_drive N gm a1 = some (w, gm1)) (ht : gI gm1 900 0 = 0) (hv : w32 v = w32 w) (hI : Inv N (t + 1) K z (sA g1 393 0 (w32 v)) gm1 a) : StepOK N t (lc_34 N K z g gm a1 a2 a3 a4 a5 a6) := by
  have e : xLaw0_drive N 393 K z g a1 = some (0, (K, z, sA g1 393 0 (w32 v))) := by unfold xLaw0_drive; rw [hx, obind_some]; dsimp only [thT]; rw [wrA_at (i := 0) 0 rfl (by omega) (by omega), obind_some]
  exact st_v e hm ht hv hI
theorem o_drive_r1 (hx : x_drive N K g a1 = some (.inl (1, sA g 12 1 (gA g 12 1 + 1)))) (hm : m_drive N gm a1 = some (w, sA (sI (sI gm 900 0 0) 900 0 1) 1 1 (gA gm 1 1 + 1))) (h394 : 394 ≤ z) (ht : t < 64) (hI : Inv N t K z g gm a) : StepOK N t (lc_34 N K z g gm a1 a2 a3 a4 a5 a6) := by
  have hz := hI.zb
  have e : xLaw0_drive N 393 K z g a1 = some (1, (kE 1 K z, z + 1, sA g 12 1 (gA g 12 1 + 1))) := by unfold xLaw0_drive; rw [hx, obind_some]; show lim (z + 1) _ = _; rw [lim_le (by omega)]; rfl
  exact st_r e hm (by decide) (by decide) (by omega) h394 ht hI
theorem o_pumps_v (hx : x_pumps N K g a1 = some (.inr (v, g1))) (hm : m_pumps N gm a1 = some (w, gm1)) (ht : gI gm1 900 0 = 0) (hv : w32 v = w32 w) (hI : Inv N (t + 1) K z (sA g1 393 0 (w32 v)) gm1 a) : StepOK N t (lc_35 N K z g gm a1 a2 a3 a4 a5 a6) := by
  have e : xLaw0_pumps N 393 K z g a1 = some (0, (K, z, sA g1 393 0 (w32 v))) := by unfold xLaw0_pumps; rw [hx, obind_some]; dsimp only [thT]; rw [wrA_at (i := 0) 0 rfl (by omega) (by omega), obind_some]
  exact st_v e hm ht hv hI
theorem o_pumps_r1 (hx : x_pumps N K g a1 = some (.inl (1, sA g 12 1 (gA g 12 1 + 1)))) (hm : m_pumps N gm a1 = some (w, sA (sI (sI gm 900 0 0) 900 0 1) 1 1 (gA gm 1 1 + 1))) (h394 : 394 ≤ z) (ht : t < 64) (hI : Inv N t K z g gm a) : StepOK N t (lc_35 N K z g gm a1 a2 a3 a4 a5 a6) := by
  have hz := hI.zb
  have e : xLaw0_pumps N 393 K z g a1 = some (1, (kE 1 K z, z + 1, sA g 12 1 (gA g 12 1 + 1))) := by unfold xLaw0_pumps; rw [hx, obind_some]; show lim (z + 1) _ = _; rw [lim_le (by omega)]; rfl
  exact st_r e hm (by decide) (by decide) (by omega) h394 ht hI
theorem o_odds_v (hx : x_odds N K g a1 a2 = some (.inr (v, g1))) (hm : m_odds N gm a1 a2 = some (w, gm1)) (ht : gI gm1 900 0 = 0) (hv : v = w) (hI : Inv N (t + 1) K z (sA g1 393 0 v) gm1 a) : StepOK N t (lc_36 N K z g gm a1 a2 a3 a4 a5 a6) := by
  have e : xLaw0_odds N 393 K z g a1 a2 = some (0, (K, z, sA g1 393 0 v)) := by unfold xLaw0_odds; rw [hx, obind_some]; dsimp only [thT]; rw [wrA_at (i := 0) 0 rfl (by omega) (by omega), obind_some]
  exact st_vL e hm ht hv hI
theorem o_odds_r0 (hx : x_odds N K g a1 a2 = some (.inl (0, sA g 12 0 (gA g 12 0 + 1)))) (hm : m_odds N gm a1 a2 = some (w, sA (sI (sI gm 900 0 0) 900 0 1) 1 0 (gA gm 1 0 + 1))) (h394 : 394 ≤ z) (ht : t < 64) (hI : Inv N t K z g gm a) : StepOK N t (lc_36 N K z g gm a1 a2 a3 a4 a5 a6) := by
  have hz := hI.zb
  have e : xLaw0_odds N 393 K z g a1 a2 = some (1, (kE 0 K z, z + 1, sA g 12 0 (gA g 12 0 + 1))) := by unfold xLaw0_odds; rw [hx, obind_some]; show lim (z + 1) _ = _; rw [lim_le (by omega)]; rfl
  exact st_rL e hm (by decide) (by decide) (by omega) h394 ht hI
theorem o_odds_r1 (hx : x_odds N K g a1 a2 = some (.inl (1, sA g 12 1 (gA g 12 1 + 1)))) (hm : m_odds N gm a1 a2 = some (w, sA (sI (sI gm 900 0 0) 900 0 2) 1 1 (gA gm 1 1 + 1))) (h394 : 394 ≤ z) (ht : t < 64) (hI : Inv N t K z g gm a) : StepOK N t (lc_36 N K z g gm a1 a2 a3 a4 a5 a6) := by
  have hz := hI.zb
  have e : xLaw0_odds N 393 K z g a1 a2 = some (2, (kE 1 K z, z + 1, sA g 12 1 (gA g 12 1 + 1))) := by unfold xLaw0_odds; rw [hx, obind_some]; show lim (z + 1) _ = _; rw [lim_le (by omega)]; rfl
  exact st_rL e hm (by decide) (by decide) (by omega) h394 ht hI
theorem o_evening_v (hx : x_evening N K g a1 a2 = some (.inr (v, g1))) (hm : m_evening N gm a1 a2 = some (w, gm1)) (ht : gI gm1 900 0 = 0) (hv : w32 v = w32 w) (hI : Inv N (t + 1) K z (sA g1 393 0 (w32 v)) gm1 a) : StepOK N t (lc_39 N K z g gm a1 a2 a3 a4 a5 a6) := by
  have e : xLaw0_evening N 393 K z g a1 a2 = some (0, (K, z, sA g1 393 0 (w32 v))) := by unfold xLaw0_evening; rw [hx, obind_some]; dsimp only [thT]; rw [wrA_at (i := 0) 0 rfl (by omega) (by omega), obind_some]
  exact st_v e hm ht hv hI
theorem o_evening_r1 (hx : x_evening N K g a1 a2 = some (.inl (1, sA g 12 1 (gA g 12 1 + 1)))) (hm : m_evening N gm a1 a2 = some (w, sA (sI (sI gm 900 0 0) 900 0 1) 1 1 (gA gm 1 1 + 1))) (h394 : 394 ≤ z) (ht : t < 64) (hI : Inv N t K z g gm a) : StepOK N t (lc_39 N K z g gm a1 a2 a3 a4 a5 a6) := by
  have hz := hI.zb
  have e : xLaw0_evening N 393 K z g a1 a2 = some (1, (kE 1 K z, z + 1, sA g 12 1 (gA g 12 1 + 1))) := by unfold xLaw0_evening; rw [hx, obind_some]; show lim (z + 1) _ = _; rw [lim_le (by omega)]; rfl
  exact st_r e hm (by decide) (by decide) (by omega) h394 ht hI
theorem o_evenings_v (hx : x_evenings N K g a1 a2 a3 = some (.inr (v, g1))) (hm : m_evenings N gm a1 a2 a3 = some (w, gm1)) (ht : gI gm1 900 0 = 0) (hv : w32 v = w32 w) (hI : Inv N (t + 1) K z (sA g1 393 0 (w32 v)) gm1 a) : StepOK N t (lc_40 N K z g gm a1 a2 a3 a4 a5 a6) := by
  have e : xLaw0_evenings N 393 K z g a1 a2 a3 = some (0, (K, z, sA g1 393 0 (w32 v))) := by unfold xLaw0_evenings; rw [hx, obind_some]; dsimp only [thT]; rw [wrA_at (i := 0) 0 rfl (by omega) (by omega), obind_some]
  exact st_v e hm ht hv hI
theorem o_evenings_r1 (hx : x_evenings N K g a1 a2 a3 = some (.inl (1, sA g 12 1 (gA g 12 1 + 1)))) (hm : m_evenings N gm a1 a2 a3 = some (w, sA (sI (sI gm 900 0 0) 900 0 1) 1 1 (gA gm 1 1 + 1))) (h394 : 394 ≤ z) (ht : t < 64) (hI : Inv N t K z g gm a) : StepOK N t (lc_40 N K z g gm a1 a2 a3 a4 a5 a6) := by
  have hz := hI.zb
  have e : xLaw0_evenings N 393 K z g a1 a2 a3 = some (1, (kE 1 K z, z + 1, sA g 12 1 (gA g 12 1 + 1))) := by unfold xLaw0_evenings; rw [hx, obind_some]; show lim (z + 1) _ = _; rw [lim_le (by omega)]; rfl
  exact st_r e hm (by decide) (by decide) (by omega) h394 ht hI
theorem o_swap_v (hx : x_swap K g a1 a2 = some (.inr (v, g1))) (hm : m_swap N gm a1 a2 = some (w, gm1)) (ht : gI gm1 900 0 = 0) (hv : w32 v = w32 w) (hI : Inv N (t + 1) K z (sA g1 393 0 (w32 v)) gm1 a) : StepOK N t (lc_41 N K z g gm a1 a2 a3 a4 a5 a6) := by
  have e : xLaw0_swap 393 K z g a1 a2 = some (0, (K, z, sA g1 393 0 (w32 v))) := by unfold xLaw0_swap; rw [hx, obind_some]; dsimp only [thT]; rw [wrA_at (i := 0) 0 rfl (by omega) (by omega), obind_some]
  exact st_v e hm ht hv hI
theorem o_swap_r0 (hx : x_swap K g a1 a2 = some (.inl (0, sA g 12 0 (gA g 12 0 + 1)))) (hm : m_swap N gm a1 a2 = some (w, sA (sI (sI gm 900 0 0) 900 0 1) 1 0 (gA gm 1 0 + 1))) (h394 : 394 ≤ z) (ht : t < 64) (hI : Inv N t K z g gm a) : StepOK N t (lc_41 N K z g gm a1 a2 a3 a4 a5 a6) := by
  have hz := hI.zb
  have e : xLaw0_swap 393 K z g a1 a2 = some (1, (kE 0 K z, z + 1, sA g 12 0 (gA g 12 0 + 1))) := by unfold xLaw0_swap; rw [hx, obind_some]; show lim (z + 1) _ = _; rw [lim_le (by omega)]; rfl
  exact st_r e hm (by decide) (by decide) (by omega) h394 ht hI
theorem o_hand_v (hx : x_hand K g a1 a2 = some (.inr (v, g1))) (hm : m_hand N gm a1 a2 = some (w, gm1)) (ht : gI gm1 900 0 = 0) (hv : w32 v = w32 w) (hI : Inv N (t + 1) K z (sA g1 393 0 (w32 v)) gm1 a) : StepOK N t (lc_42 N K z g gm a1 a2 a3 a4 a5 a6) := by
  have e : xLaw0_hand 393 K z g a1 a2 = some (0, (K, z, sA g1 393 0 (w32 v))) := by unfold xLaw0_hand; rw [hx, obind_some]; dsimp only [thT]; rw [wrA_at (i := 0) 0 rfl (by omega) (by omega), obind_some]
  exact st_v e hm ht hv hI
theorem o_hand_r0 (hx : x_hand K g a1 a2 = some (.inl (0, sA g 12 0 (gA g 12 0 + 1)))) (hm : m_hand N gm a1 a2 = some (w, sA (sI (sI gm 900 0 0) 900 0 1) 1 0 (gA gm 1 0 + 1))) (h394 : 394 ≤ z) (ht : t < 64) (hI : Inv N t K z g gm a) : StepOK N t (lc_42 N K z g gm a1 a2 a3 a4 a5 a6) := by
  have hz := hI.zb
  have e : xLaw0_hand 393 K z g a1 a2 = some (1, (kE 0 K z, z + 1, sA g 12 0 (gA g 12 0 + 1))) := by unfold xLaw0_hand; rw [hx, obind_some]; show lim (z + 1) _ = _; rw [lim_le (by omega)]; rfl
  exact st_r e hm (by decide) (by decide) (by omega) h394 ht hI
theorem o_hand_r1 (hx : x_hand K g a1 a2 = some (.inl (1, sA g 12 1 (gA g 12 1 + 1)))) (hm : m_hand N gm a1 a2 = some (w, sA (sI (sI gm 900 0 0) 900 0 2) 1 1 (gA gm 1 1 + 1))) (h394 : 394 ≤ z) (ht : t < 64) (hI : Inv N t K z g gm a) : StepOK N t (lc_42 N K z g gm a1 a2 a3 a4 a5 a6) := by
  have hz := hI.zb
  have e : xLaw0_hand 393 K z g a1 a2 = some (2, (kE 1 K z, z + 1, sA g 12 1 (gA g 12 1 + 1))) := by unfold xLaw0_hand; rw [hx, obind_some]; show lim (z + 1) _ = _; rw [lim_le (by omega)]; rfl
  exact st_r e hm (by decide) (by decide) (by omega) h394 ht hI
theorem o_drop_v (hx : x_drop N K g a1 = some (.inr (v, g1))) (hm : m_drop N gm a1 = some (w, gm1)) (ht : gI gm1 900 0 = 0) (hv : w32 v = w32 w) (hI : Inv N (t + 1) K z (sA g1 393 0 (w32 v)) gm1 a) : StepOK N t (lc_43 N K z g gm a1 a2 a3 a4 a5 a6) := by
  have e : xLaw0_drop N 393 K z g a1 = some (0, (K, z, sA g1 393 0 (w32 v))) := by unfold xLaw0_drop; rw [hx, obind_some]; dsimp only [thT]; rw [wrA_at (i := 0) 0 rfl (by omega) (by omega), obind_some]
  exact st_v e hm ht hv hI
theorem o_drop_r0 (hx : x_drop N K g a1 = some (.inl (0, sA g 12 0 (gA g 12 0 + 1)))) (hm : m_drop N gm a1 = some (w, sA (sI (sI gm 900 0 0) 900 0 1) 1 0 (gA gm 1 0 + 1))) (h394 : 394 ≤ z) (ht : t < 64) (hI : Inv N t K z g gm a) : StepOK N t (lc_43 N K z g gm a1 a2 a3 a4 a5 a6) := by
  have hz := hI.zb
  have e : xLaw0_drop N 393 K z g a1 = some (1, (kE 0 K z, z + 1, sA g 12 0 (gA g 12 0 + 1))) := by unfold xLaw0_drop; rw [hx, obind_some]; show lim (z + 1) _ = _; rw [lim_le (by omega)]; rfl
  exact st_r e hm (by decide) (by decide) (by omega) h394 ht hI
