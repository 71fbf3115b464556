/-! RainWheel and what it is made of: methods as pure functions (printed by gen/xworld.py) -/
def x_isThere_j10 (g : GS) : Option ((Nat × GS) ⊕ GS) :=
  (rdA g 12 3 0).bind fun v16 =>
  (wrA g 12 3 0 (v16 + 1)).bind fun g19 =>
  some (.inl (0, g19))
def x_isThere (g : GS) (l1 : Int) (l2 : Int) : Option ((Nat × GS) ⊕ GS) :=
  if w32 l1 < 0 then
    x_isThere_j10 g
  else
    if w32 l2 ≤ w32 l1 then
      x_isThere_j10 g
    else
      some (.inr g)
def x_deedOf (K : Nat → Nat) (g : GS) (l1 : Int) : Option ((Nat × GS) ⊕ GS) :=
  (rdR K g 12 0 9).bind fun i3 =>
  (x_isThere g l1 (gI g 814 i3)).bind fun c9 =>
  thT c9 (fun x9 => some (.inl x9)) fun y9 =>
  some (.inr y9)
def x_personOf (K : Nat → Nat) (g : GS) (l1 : Int) : Option ((Nat × GS) ⊕ GS) :=
  (rdR K g 12 0 9).bind fun i3 =>
  (x_isThere g l1 (gI g 813 i3)).bind fun c9 =>
  thT c9 (fun x9 => some (.inl x9)) fun y9 =>
  some (.inr y9)
def x_lineOf (g : GS) (l1 : Int) : Option ((Nat × GS) ⊕ GS) :=
  (x_isThere g l1 (gI g 202 3)).bind fun c9 =>
  thT c9 (fun x9 => some (.inl x9)) fun y9 =>
  some (.inr y9)
def x_within_j11 (g : GS) : Option ((Nat × GS) ⊕ GS) :=
  (rdA g 12 3 1).bind fun v17 =>
  (wrA g 12 3 1 (v17 + 1)).bind fun g20 =>
  some (.inl (1, g20))
def x_within (g : GS) (l1 : Int) (l2 : Int) (l3 : Int) : Option ((Nat × GS) ⊕ GS) :=
  if w32 l1 < w32 l2 then
    x_within_j11 g
  else
    if w32 l3 < w32 l1 then
      x_within_j11 g
    else
      some (.inr g)
def x_few (K : Nat → Nat) (g : GS) : Option ((Nat × GS) ⊕ GS) :=
  (rdR K g 12 0 9).bind fun i1 =>
  if w32 5 < w32 (gI g 814 i1) then
    (rdA g 12 3 2).bind fun v18 =>
    (wrA g 12 3 2 (v18 + 1)).bind fun g21 =>
    some (.inl (2, g21))
  else
    some (.inr g)
def x_told (K : Nat → Nat) (g : GS) (l1 : Int) : Option ((Nat × GS) ⊕ (Int × GS)) :=
  (x_within g l1 0 8).bind fun c5 =>
  thT c5 (fun x5 => some (.inl x5)) fun y5 =>
  if w32 l1 = 0 then
    (rdR K y5 12 0 9).bind fun i57 =>
    some (.inr ((gI y5 813 i57), y5))
  else
    if w32 l1 = 1 then
      (rdR K y5 12 0 9).bind fun i65 =>
      some (.inr ((gI y5 814 i65), y5))
    else
      if w32 l1 = 2 then
        (rdR K y5 12 0 9).bind fun i73 =>
        some (.inr ((gI y5 816 i73), y5))
      else
        if w32 l1 = 3 then
          (rdR K y5 12 0 9).bind fun i81 =>
          some (.inr ((gI y5 817 i81), y5))
        else
          if w32 l1 = 4 then
            (rdR K y5 12 0 9).bind fun i89 =>
            some (.inr ((gI y5 818 i89), y5))
          else
            if w32 l1 = 5 then
              some (.inr ((gI y5 202 3), y5))
            else
              if w32 l1 = 6 then
                some (.inr ((gI y5 15 0), y5))
              else
                if w32 l1 = 7 then
                  (rdR K y5 12 0 9).bind fun i110 =>
                  some (.inr ((gI y5 819 i110), y5))
                else
                  (rdR K y5 12 0 9).bind fun i118 =>
                  some (.inr ((gI y5 820 i118), y5))
def x_deed (K : Nat → Nat) (g : GS) (l1 : Int) (l2 : Int) : Option ((Nat × GS) ⊕ (Int × GS)) :=
  (x_deedOf K g l1).bind fun c2 =>
  thT c2 (fun x2 => some (.inl x2)) fun y2 =>
  (x_within y2 l2 0 4).bind fun c9 =>
  thT c9 (fun x9 => some (.inl x9)) fun y9 =>
  if w32 l2 = 0 then
    (rdR K y9 12 0 9).bind fun i45 =>
    (rdA y9 (i45 + 2) 12 l1).bind fun v52 =>
    some (.inr (v52, y9))
  else
    if w32 l2 = 1 then
      (rdR K y9 12 0 9).bind fun i55 =>
      (rdA y9 (i55 + 3) 12 l1).bind fun v62 =>
      some (.inr (v62, y9))
    else
      if w32 l2 = 2 then
        (rdR K y9 12 0 9).bind fun i65 =>
        (rdA y9 (i65 + 4) 12 l1).bind fun v72 =>
        some (.inr (v72, y9))
      else
        if w32 l2 = 3 then
          (rdR K y9 12 0 9).bind fun i75 =>
          (rdA y9 (i75 + 5) 12 l1).bind fun v82 =>
          some (.inr (v82, y9))
        else
          (rdR K y9 12 0 9).bind fun i85 =>
          (rdA y9 (i85 + 6) 12 l1).bind fun v92 =>
          some (.inr (v92, y9))
def x_strong (K : Nat → Nat) (g : GS) (l1 : Int) : Option ((Nat × GS) ⊕ (Int × GS)) :=
  (x_personOf K g l1).bind fun c2 =>
  thT c2 (fun x2 => some (.inl x2)) fun y2 =>
  (rdR K y2 12 0 9).bind fun i6 =>
  (rdA y2 (i6 + 1) 4 l1).bind fun v13 =>
  some (.inr (v13, y2))
def x_bears (K : Nat → Nat) (g : GS) (l1 : Int) : Option ((Nat × GS) ⊕ (Int × GS)) :=
  (x_within g l1 0 59).bind fun c5 =>
  thT c5 (fun x5 => some (.inl x5)) fun y5 =>
  (rdR K y5 12 0 9).bind fun i9 =>
  (rdA y5 (i9 + 9) 60 l1).bind fun v16 =>
  some (.inr (v16, y5))
def x_rains (N : Nat) (K : Nat → Nat) (g : GS) (l1 : Int) : Option ((Nat × GS) ⊕ (Int × GS)) :=
  (x_within g l1 0 240).bind fun c6 =>
  thT c6 (fun x6 => some (.inl x6)) fun y6 =>
  (rdR K y6 12 0 9).bind fun i10 =>
  (xRoad_isRain N i10 y6 l1).bind fun c14 =>
  rtZ c14 (some (.inr (c14, y6)))
def x_line (N : Nat) (K : Nat → Nat) (g : GS) (l1 : Int) (l2 : Int) : Option ((Nat × GS) ⊕ (Int × GS)) :=
  (x_lineOf g l1).bind fun c2 =>
  thT c2 (fun x2 => some (.inl x2)) fun y2 =>
  (x_within y2 l2 0 4).bind fun c9 =>
  thT c9 (fun x9 => some (.inl x9)) fun y9 =>
  (x_gone N K y9).bind fun c13 =>
  if w32 l2 = 0 then
    (rdA c13 4 12 l1).bind fun v56 =>
    some (.inr (v56, c13))
  else
    if w32 l2 = 1 then
      (rdA c13 5 12 l1).bind fun v66 =>
      some (.inr (v66, c13))
    else
      if w32 l2 = 2 then
        (rdA c13 15 12 l1).bind fun v76 =>
        if ¬ w32 v76 = w32 (-1) then
          some (.inr (0, c13))
        else
          some (.inr (1, c13))
      else
        if w32 l2 = 3 then
          (rdA c13 15 12 l1).bind fun v95 =>
          some (.inr (v95, c13))
        else
          (rdA c13 16 12 l1).bind fun v105 =>
          some (.inr (v105, c13))
def x_wet (N : Nat) (K : Nat → Nat) (g : GS) (l1 : Int) : Option ((Nat × GS) ⊕ (Int × GS)) :=
  (x_personOf K g l1).bind fun c2 =>
  thT c2 (fun x2 => some (.inl x2)) fun y2 =>
  (x_gone N K y2).bind fun c6 =>
  (rdA c6 19 4 l1).bind fun v13 =>
  some (.inr (v13, c6))
def x_idle (N : Nat) (K : Nat → Nat) (g : GS) (l1 : Int) : Option ((Nat × GS) ⊕ (Int × GS)) :=
  (x_personOf K g l1).bind fun c2 =>
  thT c2 (fun x2 => some (.inl x2)) fun y2 =>
  (x_gone N K y2).bind fun c6 =>
  (rdA c6 20 4 l1).bind fun v20 =>
  some (.inr (((gI c6 309 14) - v20), c6))
def x_slack (N : Nat) (K : Nat → Nat) (g : GS) (l1 : Int) : Option ((Nat × GS) ⊕ (Int × GS)) :=
  (x_deedOf K g l1).bind fun c2 =>
  thT c2 (fun x2 => some (.inl x2)) fun y2 =>
  (x_slackOf N K y2 l1).bind fun c7 =>
  some (.inr (c7.1, c7.2))
def x_ahead (N : Nat) (K : Nat → Nat) (g : GS) (l1 : Int) : Option ((Nat × GS) ⊕ (Int × GS)) :=
  (x_deedOf K g l1).bind fun c2 =>
  thT c2 (fun x2 => some (.inl x2)) fun y2 =>
  (rdR K y2 12 0 9).bind fun i6 =>
  (xRoad_ahead N i6 y2 l1).bind fun c10 =>
  some (.inr (c10, y2))
def x_chain (N : Nat) (K : Nat → Nat) (g : GS) (l1 : Int) : Option ((Nat × GS) ⊕ (Int × GS)) :=
  (x_deedOf K g l1).bind fun c2 =>
  thT c2 (fun x2 => some (.inl x2)) fun y2 =>
  (rdR K y2 12 0 9).bind fun i6 =>
  (xRoad_chain N i6 y2 l1).bind fun c10 =>
  some (.inr (c10, y2))
def x_soonest (N : Nat) (K : Nat → Nat) (g : GS) (l1 : Int) : Option ((Nat × GS) ⊕ (Int × GS)) :=
  (x_within g l1 0 1).bind fun c4 =>
  thT c4 (fun x4 => some (.inl x4)) fun y4 =>
  (x_few K y4).bind fun c8 =>
  thT c8 (fun x8 => some (.inl x8)) fun y8 =>
  (rdR K y8 12 0 9).bind fun i16 =>
  (xSoonest_finds N K i16 y8).bind fun c19 =>
  if w32 l1 = 0 then
    some (.inr ((gI c19 505 22), c19))
  else
    if ¬ w32 (gI c19 505 22) = w32 (-1) then
      some (.inr ((gI c19 506 22), c19))
    else
      some (.inr ((gI c19 505 22), c19))
def x_first (N : Nat) (K : Nat → Nat) (g : GS) (l1 : Int) : Option ((Nat × GS) ⊕ (Int × GS)) :=
  (rdR K g 12 0 9).bind fun i4 =>
  (x_within g l1 0 ((gI g 814 i4) - 1)).bind fun c12 =>
  thT c12 (fun x12 => some (.inl x12)) fun y12 =>
  (x_few K y12).bind fun c16 =>
  thT c16 (fun x16 => some (.inl x16)) fun y16 =>
  (rdR K y16 12 0 9).bind fun i24 =>
  (xSoonest_finds N K i24 y16).bind fun c27 =>
  if ¬ w32 (gI c27 505 22) = w32 (-1) then
    (rdA c27 26 5 l1).bind fun v55 =>
    (rdA c27 27 5 l1).bind fun v65 =>
    some (.inr (((100 * v55) + v65), c27))
  else
    some (.inr ((-1), c27))
def x_jack (g : GS) (l1 : Int) (l2 : Int) : Option ((Nat × GS) ⊕ GS) :=
  (x_within g l1 0 59).bind fun c5 =>
  thT c5 (fun x5 => some (.inl x5)) fun y5 =>
  (x_within y5 l2 0 240).bind fun c14 =>
  thT c14 (fun x14 => some (.inl x14)) fun y14 =>
  some (.inr y14)
def x_sinks (N : Nat) (K : Nat → Nat) (g : GS) (l1 : Int) (l2 : Int) (l3 : Int) : Option ((Nat × GS) ⊕ (Int × GS)) :=
  (x_jack g l1 l3).bind fun c3 =>
  thT c3 (fun x3 => some (.inl x3)) fun y3 =>
  (rdR K y3 12 0 9).bind fun i11 =>
  (x_within y3 l2 0 ((i_shl 1 (gI y3 816 i11)) - 1)).bind fun c20 =>
  thT c20 (fun x20 => some (.inl x20)) fun y20 =>
  (rdR K y20 12 0 9).bind fun i24 =>
  (xRoad_sinks N i24 y20 l1 l2 l3).bind fun c30 =>
  some (.inr (c30, y20))
def x_under_j72 (N : Nat) (K : Nat → Nat) (g : GS) (l1 : Int) (l2 : Int) (l3 : Int) (l5 : Int) : Option ((Int × Int) ⊕ ((Nat × GS) ⊕ (Int × GS))) :=
  some (.inl (l5, (l5 + 1)))
def x_under_b21 (N : Nat) (K : Nat → Nat) (g : GS) (l1 : Int) (l2 : Int) (l3 : Int) (l4 : Int) (l5 : Int) : Option ((Int × Int) ⊕ ((Nat × GS) ⊕ (Int × GS))) :=
  (rdR K g 12 0 9).bind fun i25 =>
  if w32 (i_shl 1 (gI g 816 i25)) ≤ w32 l5 then
    outR (some (.inr (l4, g)))
  else
    (rdR K g 12 0 9).bind fun i36 =>
    (xRoad_sinks N i36 g l1 l5 l2).bind fun c43 =>
    if w32 c43 ≤ w32 l3 then
      if w32 l4 = w32 (-1) then
        x_under_j72 N K g l1 l2 l3 l5
      else
        if w32 (i_bits l4) ≤ w32 (i_bits l5) then
          some (.inl (l4, (l5 + 1)))
        else
          x_under_j72 N K g l1 l2 l3 l5
    else
      some (.inl (l4, (l5 + 1)))
def x_under (N : Nat) (K : Nat → Nat) (g : GS) (l1 : Int) (l2 : Int) (l3 : Int) : Option ((Nat × GS) ⊕ (Int × GS)) :=
  (x_jack g l1 l2).bind fun c3 =>
  thT c3 (fun x3 => some (.inl x3)) fun y3 =>
  (x_within y3 l3 0 9999).bind fun c12 =>
  thT c12 (fun x12 => some (.inl x12)) fun y12 =>
  loopN (fun s => x_under_b21 N K y12 l1 l2 l3 s.1 s.2) N ((-1), 0)
def x_push_j77 (N : Nat) (K : Nat → Nat) (g : GS) (l1 : Int) (l2 : Int) (l3 : Int) (l4 : Int) (l7 : Int) (l8 : Int) : Option ((Int × Int × Int) ⊕ (Int × Int)) :=
  some (.inl (l7, l8, (l7 + 1)))
def x_push_b31 (N : Nat) (K : Nat → Nat) (g : GS) (l1 : Int) (l2 : Int) (l3 : Int) (l4 : Int) (l5 : Int) (l6 : Int) (l7 : Int) : Option ((Int × Int × Int) ⊕ (Int × Int)) :=
  if w32 60 ≤ w32 l7 then
    some (.inr (l5, l6))
  else
    (rdR K g 12 0 9).bind fun i48 =>
    (xRoad_sinks N i48 g l7 0 l3).bind fun c55 =>
    if w32 l6 = w32 (-1) then
      x_push_j77 N K g l1 l2 l3 l4 l7 ((l2 * (iabs (l7 - l1))) + c55)
    else
      if w32 ((l2 * (iabs (l7 - l1))) + c55) < w32 l6 then
        x_push_j77 N K g l1 l2 l3 l4 l7 ((l2 * (iabs (l7 - l1))) + c55)
      else
        some (.inl (l5, l6, (l7 + 1)))
def x_push (N : Nat) (K : Nat → Nat) (g : GS) (l1 : Int) (l2 : Int) (l3 : Int) (l4 : Int) : Option ((Nat × GS) ⊕ (Int × GS)) :=
  (x_jack g l1 l3).bind fun c3 =>
  thT c3 (fun x3 => some (.inl x3)) fun y3 =>
  (x_within y3 l2 0 99).bind fun c11 =>
  thT c11 (fun x11 => some (.inl x11)) fun y11 =>
  (x_within y11 l4 0 1).bind fun c19 =>
  thT c19 (fun x19 => some (.inl x19)) fun y19 =>
  (loopN (fun s => x_push_b31 N K y19 l1 l2 l3 l4 s.1 s.2.1 s.2.2) N (0, (-1), 0)).bind fun t1 =>
  if ¬ w32 l4 = 0 then
    some (.inr (t1.2, y19))
  else
    some (.inr (t1.1, y19))
def x_strength (g : GS) (l1 : Int) : Option ((Nat × GS) ⊕ GS) :=
  (x_within g l1 0 18).bind fun c5 =>
  thT c5 (fun x5 => some (.inl x5)) fun y5 =>
  some (.inr y5)
def x_tries (N : Nat) (K : Nat → Nat) (g : GS) (l1 : Int) (l2 : Int) (l3 : Int) (l4 : Int) : Option ((Nat × GS) ⊕ (Int × GS)) :=
  (rdR K g 12 0 9).bind fun i3 =>
  (x_isThere g l1 (gI g 817 i3)).bind fun c9 =>
  thT c9 (fun x9 => some (.inl x9)) fun y9 =>
  (x_within y9 l2 0 7).bind fun c17 =>
  thT c17 (fun x17 => some (.inl x17)) fun y17 =>
  (x_strength y17 l3).bind fun c22 =>
  thT c22 (fun x22 => some (.inl x22)) fun y22 =>
  (x_within y22 l4 0 1).bind fun c30 =>
  thT c30 (fun x30 => some (.inl x30)) fun y30 =>
  (x_power N 16 l2).bind fun c36 =>
  (x_loosens K y30 l1 l3).bind fun c44 =>
  (x_power N (16 - c44) l2).bind fun c49 =>
  (x_power N 16 l2).bind fun c56 =>
  (x_part N (c36 - c49) c56 l4).bind fun c61 =>
  some (.inr (c61, y30))
def x_half_b19 (N : Nat) (K : Nat → Nat) (g : GS) (l1 : Int) (l2 : Int) (l3 : Int) : Option ((Int) ⊕ ((Nat × GS) ⊕ (Int × GS))) :=
  if w32 8 ≤ w32 l3 then
    outR (some (.inr ((-1), g)))
  else
    (x_loosens K g l1 l2).bind fun c33 =>
    (x_power N (16 - c33) l3).bind fun c38 =>
    (x_power N 16 l3).bind fun c45 =>
    if 0 < w32 (l_cmp (2 * c38) c45) then
      some (.inl (l3 + 1))
    else
      outR (some (.inr (l3, g)))
def x_half (N : Nat) (K : Nat → Nat) (g : GS) (l1 : Int) (l2 : Int) : Option ((Nat × GS) ⊕ (Int × GS)) :=
  (rdR K g 12 0 9).bind fun i3 =>
  (x_isThere g l1 (gI g 817 i3)).bind fun c9 =>
  thT c9 (fun x9 => some (.inl x9)) fun y9 =>
  (x_strength y9 l2).bind fun c14 =>
  thT c14 (fun x14 => some (.inl x14)) fun y14 =>
  loopN (fun s => x_half_b19 N K y14 l1 l2 s) N 1
def x_easiest_j40 (N : Nat) (K : Nat → Nat) (g : GS) (l1 : Int) (l3 : Int) : Option ((Int × Int) ⊕ ((Nat × GS) ⊕ (Int × GS))) :=
  some (.inl (l3, (l3 + 1)))
def x_easiest_b9 (N : Nat) (K : Nat → Nat) (g : GS) (l1 : Int) (l2 : Int) (l3 : Int) : Option ((Int × Int) ⊕ ((Nat × GS) ⊕ (Int × GS))) :=
  (rdR K g 12 0 9).bind fun i11 =>
  if w32 (gI g 817 i11) ≤ w32 l3 then
    outR (some (.inr (l2, g)))
  else
    if w32 l2 = w32 (-1) then
      x_easiest_j40 N K g l1 l3
    else
      (x_loosens K g l3 l1).bind fun c28 =>
      (x_loosens K g l2 l1).bind fun c34 =>
      if w32 c28 ≤ w32 c34 then
        some (.inl (l2, (l3 + 1)))
      else
        x_easiest_j40 N K g l1 l3
def x_easiest (N : Nat) (K : Nat → Nat) (g : GS) (l1 : Int) : Option ((Nat × GS) ⊕ (Int × GS)) :=
  (x_strength g l1).bind fun c2 =>
  thT c2 (fun x2 => some (.inl x2)) fun y2 =>
  loopN (fun s => x_easiest_b9 N K y2 l1 s.1 s.2) N ((-1), 0)
def x_waiting (g : GS) (l1 : Int) (l2 : Int) : Option ((Nat × GS) ⊕ GS) :=
  (x_within g l1 0 240).bind fun c6 =>
  thT c6 (fun x6 => some (.inl x6)) fun y6 =>
  (x_within y6 l2 0 240).bind fun c15 =>
  thT c15 (fun x15 => some (.inl x15)) fun y15 =>
  some (.inr y15)
def x_waits (N : Nat) (K : Nat → Nat) (g : GS) (l1 : Int) (l2 : Int) (l3 : Int) (l4 : Int) : Option ((Nat × GS) ⊕ (Int × GS)) :=
  (x_within g l1 0 8).bind fun c5 =>
  thT c5 (fun x5 => some (.inl x5)) fun y5 =>
  (x_waiting y5 l2 l3).bind fun c11 =>
  thT c11 (fun x11 => some (.inl x11)) fun y11 =>
  (x_within y11 l4 0 1).bind fun c19 =>
  thT c19 (fun x19 => some (.inl x19)) fun y19 =>
  (x_meanOf N K y19 l1 l2 l3).bind fun c26 =>
  (x_power N 16 8).bind fun c33 =>
  (x_part N c26 c33 l4).bind fun c38 =>
  some (.inr (c38, y19))
def x_await_b11 (N : Nat) (K : Nat → Nat) (g : GS) (l1 : Int) (l2 : Int) (l3 : Int) (l4 : Int) : Option ((Int × Int) ⊕ ((Nat × GS) ⊕ (Int × GS))) :=
  if w32 8 < w32 l4 then
    outR (some (.inr (l3, g)))
  else
    (x_meanOf N K g l4 l1 l2).bind fun c23 =>
    (x_meanOf N K g l3 l1 l2).bind fun c30 =>
    if 0 ≤ w32 (l_cmp c23 c30) then
      some (.inl (l3, (l4 + 1)))
    else
      some (.inl (l4, (l4 + 1)))
def x_await (N : Nat) (K : Nat → Nat) (g : GS) (l1 : Int) (l2 : Int) : Option ((Nat × GS) ⊕ (Int × GS)) :=
  (x_waiting g l1 l2).bind fun c3 =>
  thT c3 (fun x3 => some (.inl x3)) fun y3 =>
  loopN (fun s => x_await_b11 N K y3 l1 l2 s.1 s.2) N (0, 1)
def x_cross (N : Nat) (g : GS) (l1 : Int) (l2 : Int) : Option ((Nat × GS) ⊕ (Int × GS)) :=
  (x_within g l1 3 6).bind fun c5 =>
  thT c5 (fun x5 => some (.inl x5)) fun y5 =>
  (x_within y5 l2 0 1).bind fun c12 =>
  thT c12 (fun x12 => some (.inl x12)) fun y12 =>
  (xRing_finds N y12 l1).bind fun c20 =>
  if ¬ w32 l2 = 0 then
    some (.inr ((gI c20 603 76), c20))
  else
    some (.inr ((gI c20 602 76), c20))
def x_crooked_j110 (N : Nat) (g : GS) (l2 : Int) (l3 : Int) (l4 : Int) (l6 : Int) (l7 : Int) : Option ((GS × Int × Int × Int × Int) ⊕ ((Nat × GS) ⊕ (Int × GS))) :=
  some (.inl (g, l3, l4, l7, (i_div l6 10)))
def x_crooked_b48 (N : Nat) (l2 : Int) (g : GS) (l3 : Int) (l4 : Int) (l5 : Int) (l6 : Int) : Option ((GS × Int × Int × Int × Int) ⊕ ((Nat × GS) ⊕ (Int × GS))) :=
  if w32 l6 ≤ 0 then
    outR (some (.inr (l4, g)))
  else
    (x_within g ((i_rem l6 10) - 1) 0 (l2 - 1)).bind fun c69 =>
    thT c69 (fun x69 => outR (some (.inl x69))) fun y69 =>
    (x_within y69 (i_and (i_shr l3 ((i_rem l6 10) - 1)) 1) 0 0).bind fun c81 =>
    thT c81 (fun x81 => outR (some (.inl x81))) fun y81 =>
    if w32 l5 = w32 (-1) then
      x_crooked_j110 N y81 l2 (i_or l3 (i_shl 1 ((i_rem l6 10) - 1))) l4 l6 ((i_rem l6 10) - 1)
    else
      (xRing_lacks l2 l5 ((i_rem l6 10) - 1)).bind fun c104 =>
      x_crooked_j110 N y81 l2 (i_or l3 (i_shl 1 ((i_rem l6 10) - 1))) (l4 + c104) l6 ((i_rem l6 10) - 1)
def x_crooked_j37 (N : Nat) (g : GS) (l1 : Int) (l2 : Int) (l3 : Int) (l4 : Int) (l5 : Int) : Option ((Nat × GS) ⊕ (Int × GS)) :=
  (x_within g l2 3 6).bind fun c42 =>
  thT c42 (fun x42 => some (.inl x42)) fun y42 =>
  loopN (fun s => x_crooked_b48 N l2 s.1 s.2.1 s.2.2.1 s.2.2.2.1 s.2.2.2.2) N (y42, l3, l4, l5, l1)
def x_crooked_b13 (N : Nat) (g : GS) (l1 : Int) (l3 : Int) (l4 : Int) (l5 : Int) (l2 : Int) (l6 : Int) : Option ((Int × Int) ⊕ (Int)) :=
  if w32 l6 ≤ 0 then
    some (.inr l2)
  else
    if w32 7 ≤ w32 l2 then
      some (.inr l2)
    else
      some (.inl ((l2 + 1), (i_div l6 10)))
def x_crooked (N : Nat) (g : GS) (l1 : Int) : Option ((Nat × GS) ⊕ (Int × GS)) :=
  (loopN (fun s => x_crooked_b13 N g l1 0 0 (-1) s.1 s.2) N (0, l1)).bind fun t4 =>
  x_crooked_j37 N g l1 t4 0 0 (-1)
def x_share (g : GS) (l1 : Int) : Option ((Nat × GS) ⊕ (Int × GS)) :=
  (x_within g l1 0 12).bind fun c5 =>
  thT c5 (fun x5 => some (.inl x5)) fun y5 =>
  some (.inr ((i_div (16 - l1) 4), y5))
def x_drive (N : Nat) (K : Nat → Nat) (g : GS) (l1 : Int) : Option ((Nat × GS) ⊕ (Int × GS)) :=
  (x_within g l1 1 30).bind fun c5 =>
  thT c5 (fun x5 => some (.inl x5)) fun y5 =>
  (rdR K y5 12 0 9).bind fun i14 =>
  (xMiles_lays N y5 l1 (gI y5 823 i14)).bind fun c20 =>
  (rdR K c20 12 0 9).bind fun i31 =>
  (rdA c20 79 100 (gI c20 822 i31)).bind fun v37 =>
  some (.inr (v37, c20))
def x_pumps (N : Nat) (K : Nat → Nat) (g : GS) (l1 : Int) : Option ((Nat × GS) ⊕ (Int × GS)) :=
  (x_within g l1 1 30).bind fun c5 =>
  thT c5 (fun x5 => some (.inl x5)) fun y5 =>
  (rdR K y5 12 0 9).bind fun i14 =>
  (xMiles_lays N y5 l1 (gI y5 823 i14)).bind fun c20 =>
  (rdR K c20 12 0 9).bind fun i31 =>
  (rdA c20 80 100 (gI c20 822 i31)).bind fun v37 =>
  some (.inr (v37, c20))
def x_odds_b24 (N : Nat) (K : Nat → Nat) (g : GS) (l1 : Int) (l2 : Int) (l3 : Int) (l4 : Int) : Option ((Int × Int) ⊕ (Int)) :=
  (rdR K g 12 0 9).bind fun i27 =>
  if w32 (gI g 818 i27) ≤ w32 l4 then
    some (.inr l3)
  else
    (x_weight N K g l4 (-1) (-1)).bind fun c42 =>
    some (.inl ((l3 + c42), (l4 + 1)))
def x_odds (N : Nat) (K : Nat → Nat) (g : GS) (l1 : Int) (l2 : Int) : Option ((Nat × GS) ⊕ (Int × GS)) :=
  (rdR K g 12 0 9).bind fun i3 =>
  (x_isThere g l1 (gI g 818 i3)).bind fun c9 =>
  thT c9 (fun x9 => some (.inl x9)) fun y9 =>
  (x_within y9 l2 0 1).bind fun c16 =>
  thT c16 (fun x16 => some (.inl x16)) fun y16 =>
  (loopN (fun s => x_odds_b24 N K y16 l1 l2 s.1 s.2) N (0, 0)).bind fun t1 =>
  if ¬ w32 t1 = 0 then
    (x_weight N K y16 l1 (-1) (-1)).bind fun c66 =>
    (x_part N (w32 c66) (w32 t1) l2).bind fun c73 =>
    some (.inr (c73, y16))
  else
    some (.inr ((w32 l2), y16))
def x_evening (N : Nat) (K : Nat → Nat) (g : GS) (l1 : Int) (l2 : Int) : Option ((Nat × GS) ⊕ (Int × GS)) :=
  (x_within g l2 0 2).bind fun c4 =>
  thT c4 (fun x4 => some (.inl x4)) fun y4 =>
  (x_lost N K y4 l1).bind fun c9 =>
  if ¬ w32 l2 = 0 then
    if ¬ w32 l2 = w32 1 then
      some (.inr ((gI c9 310 14), c9))
    else
      (xWatch_allWet N 14 c9).bind fun c36 =>
      some (.inr (c36, c9))
  else
    some (.inr ((gI c9 309 14), c9))
def x_evenings_j66 (N : Nat) (K : Nat → Nat) (g : GS) (l1 : Int) (l2 : Int) (l3 : Int) (l5 : Int) (l6 : Int) (l7 : Int) (l8 : Int) (l9 : Int) (s0 : Int) : Option ((GS × Int × Int × Int × Int × Int) ⊕ (GS × Int × Int × Int × Int)) :=
  if ¬ w32 (gI g 310 14) = 0 then
    some (.inl (g, s0, (imax l5 l9), (l6 + l9), l7, (l8 + 1)))
  else
    some (.inl (g, s0, (imax l5 l9), (l6 + l9), (l7 + 1), (l8 + 1)))
def x_evenings_b30 (N : Nat) (K : Nat → Nat) (l1 : Int) (l2 : Int) (l3 : Int) (g : GS) (l4 : Int) (l5 : Int) (l6 : Int) (l7 : Int) (l8 : Int) : Option ((GS × Int × Int × Int × Int × Int) ⊕ (GS × Int × Int × Int × Int)) :=
  if w32 l2 ≤ w32 l8 then
    some (.inr (g, l4, l5, l6, l7))
  else
    (x_lost N K g (l1 + l8)).bind fun c41 =>
    if ¬ w32 l8 = 0 then
      x_evenings_j66 N K c41 l1 l2 l3 l5 l6 l7 l8 (gI c41 309 14) (imin l4 (gI c41 309 14))
    else
      x_evenings_j66 N K c41 l1 l2 l3 l5 l6 l7 l8 (gI c41 309 14) (gI c41 309 14)
def x_evenings (N : Nat) (K : Nat → Nat) (g : GS) (l1 : Int) (l2 : Int) (l3 : Int) : Option ((Nat × GS) ⊕ (Int × GS)) :=
  (x_within g l2 1 40).bind fun c5 =>
  thT c5 (fun x5 => some (.inl x5)) fun y5 =>
  (x_within y5 l3 0 3).bind fun c12 =>
  thT c12 (fun x12 => some (.inl x12)) fun y12 =>
  (loopN (fun s => x_evenings_b30 N K l1 l2 l3 s.1 s.2.1 s.2.2.1 s.2.2.2.1 s.2.2.2.2.1 s.2.2.2.2.2) N (y12, 0, 0, 0, 0, 0)).bind fun t1 =>
  if ¬ w32 l3 = 0 then
    if ¬ w32 l3 = w32 1 then
      if ¬ w32 l3 = w32 2 then
        some (.inr (t1.2.2.2.2, t1.1))
      else
        some (.inr (t1.2.2.2.1, t1.1))
    else
      some (.inr (t1.2.2.1, t1.1))
  else
    some (.inr (t1.2.1, t1.1))
def x_swap (K : Nat → Nat) (g : GS) (l1 : Int) (l2 : Int) : Option ((Nat × GS) ⊕ (Int × GS)) :=
  (x_lineOf g l1).bind fun c2 =>
  thT c2 (fun x2 => some (.inl x2)) fun y2 =>
  (x_lineOf y2 l2).bind fun c7 =>
  thT c7 (fun x7 => some (.inl x7)) fun y7 =>
  if ¬ w32 l1 = w32 l2 then
    (x_changes K y7).bind fun c18 =>
    if ¬ w32 c18.1 = 0 then
      (xPlan_swaps 3 c18.2 l1 l2).bind fun c32 =>
      some (.inr (1, c32))
    else
      some (.inr ((-1), c18.2))
  else
    some (.inr (0, y7))
def x_hand (K : Nat → Nat) (g : GS) (l1 : Int) (l2 : Int) : Option ((Nat × GS) ⊕ (Int × GS)) :=
  (x_lineOf g l1).bind fun c2 =>
  thT c2 (fun x2 => some (.inl x2)) fun y2 =>
  (rdR K y2 12 0 9).bind fun i10 =>
  (x_within y2 l2 1 ((i_shl 1 (gI y2 813 i10)) - 1)).bind fun c19 =>
  thT c19 (fun x19 => some (.inl x19)) fun y19 =>
  (x_within y19 (i_bits l2) 1 2).bind fun c29 =>
  thT c29 (fun x29 => some (.inl x29)) fun y29 =>
  (x_changes K y29).bind fun c33 =>
  if ¬ w32 c33.1 = 0 then
    (wrA c33.2 5 12 l1 l2).bind fun g50 =>
    some (.inr (1, g50))
  else
    some (.inr ((-1), c33.2))
def x_drop (N : Nat) (K : Nat → Nat) (g : GS) (l1 : Int) : Option ((Nat × GS) ⊕ (Int × GS)) :=
  (x_lineOf g l1).bind fun c2 =>
  thT c2 (fun x2 => some (.inl x2)) fun y2 =>
  (x_changes K y2).bind fun c6 =>
  if ¬ w32 c6.1 = 0 then
    (xPlan_drops N 3 c6.2 l1).bind fun c19 =>
    some (.inr ((gI c19 202 3), c19))
  else
    some (.inr ((-1), c6.2))
