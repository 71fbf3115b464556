/-! RainWheel and what it is made of: methods as pure functions (printed by gen/xworld.py) -/
def x_part_b6 (N : Nat) (l0 : Int) (l2 : Int) (l4 : Int) (l5 : Int) (l7 : Int) : Option ((Int × Int) ⊕ (Int)) :=
  if w32 (l_cmp l7 0) = 0 then
    some (.inr l5)
  else
    dvL l7 <|
    some (.inl (l7, (l_rem l5 l7)))
def x_part (N : Nat) (l0 : Int) (l2 : Int) (l4 : Int) : Option Int :=
  (loopN (fun s => x_part_b6 N l0 l2 l4 s.1 s.2) N (l2, l0)).bind fun t1 =>
  if ¬ w32 l4 = 0 then
    dvL t1 <|
    some (l_div l2 t1)
  else
    dvL t1 <|
    some (l_div l0 t1)
def x_power_b5 (N : Nat) (l0 : Int) (l1 : Int) (l2 : Int) (l4 : Int) : Option ((Int × Int) ⊕ Int) :=
  if w32 l1 ≤ w32 l4 then
    outR (some l2)
  else
    some (.inl ((l2 * (w32 l0)), (l4 + 1)))
def x_power (N : Nat) (l0 : Int) (l1 : Int) : Option Int :=
  loopN (fun s => x_power_b5 N l0 l1 s.1 s.2) N (1, 0)
def xReader_byteAt (o : Nat) (g : GS) (l1 : Int) : Option Int :=
  if w32 (gI g 1101 o) ≤ w32 l1 then
    some (-1)
  else
    (rdA g 1 600 l1).bind fun v13 =>
    some (i_and v13 255)
def xReader_now_b0 (N : Nat) (o : Nat) (g : GS) : Option ((GS) ⊕ (GS)) :=
  (xReader_byteAt o g (gI g 1102 o)).bind fun c5 =>
  if ¬ w32 c5 = w32 32 then
    some (.inr g)
  else
    some (.inl (sI g 1102 o ((gI g 1102 o) + 1)))
def xReader_now (N : Nat) (o : Nat) (g : GS) : Option (Int × GS) :=
  (loopN (fun s => xReader_now_b0 N o s) N g).bind fun t1 =>
  (xReader_byteAt o t1 (gI t1 1102 o)).bind fun c31 =>
  some (c31, t1)
def xReader_place (N : Nat) (o : Nat) (g : GS) : Option (Int × GS) :=
  (xReader_now N o g).bind fun c1 =>
  some ((gI c1.2 1102 o), c1.2)
def xReader_isSmall (l0 : Int) : Option Int :=
  if w32 l0 < w32 97 then
    some 0
  else
    if w32 122 < w32 l0 then
      some 0
    else
      some 1
def xReader_isWord_b39 (N : Nat) (o : Nat) (t1 : List Int) (g : GS) (l2 : Int) (l3 : Int) (l4 : Int) : Option ((Int) ⊕ (Int × GS)) :=
  if w32 l3 ≤ w32 l4 then
    outR (some (1, g))
  else
    (xReader_byteAt o g (l2 + l4)).bind fun c50 =>
    (chA t1 l4).bind fun v56 =>
    if w32 c50 = w32 v56 then
      some (.inl (l4 + 1))
    else
      outR (some (0, g))
def xReader_isWord_b7 (N : Nat) (o : Nat) (t1 : List Int) (g : GS) (l2 : Int) (l3 : Int) : Option ((Int) ⊕ (Int)) :=
  (xReader_byteAt o g (l2 + l3)).bind fun c11 =>
  (xReader_isSmall c11).bind fun c14 =>
  if w32 c14 = 0 then
    some (.inr l3)
  else
    some (.inl (l3 + 1))
def xReader_isWord (N : Nat) (o : Nat) (t1 : List Int) (g : GS) : Option (Int × GS) :=
  (xReader_place N o g).bind fun c1 =>
  (loopN (fun s => xReader_isWord_b7 N o t1 c1.2 c1.1 s) N 0).bind fun t3 =>
  if w32 t3 = w32 (t1.length : Int) then
    loopN (fun s => xReader_isWord_b39 N o t1 c1.2 c1.1 t3 s) N 0
  else
    some (0, c1.2)
def xRoadReader_isFull_j83 (o : Nat) (g : GS) (l1 : Int) : Option Int :=
  if ¬ w32 l1 = w32 5 then
    some 0
  else
    if ¬ w32 (gI g 818 (o + 3)) = w32 4 then
      some 0
    else
      some 1
def xRoadReader_isFull_j66 (o : Nat) (g : GS) (l1 : Int) : Option Int :=
  if ¬ w32 l1 = w32 4 then
    xRoadReader_isFull_j83 o g l1
  else
    if w32 (gI g 817 (o + 3)) = w32 8 then
      some 1
    else
      xRoadReader_isFull_j83 o g l1
def xRoadReader_isFull_j49 (o : Nat) (g : GS) (l1 : Int) : Option Int :=
  if ¬ w32 l1 = w32 3 then
    xRoadReader_isFull_j66 o g l1
  else
    if w32 (gI g 816 (o + 3)) = w32 6 then
      some 1
    else
      xRoadReader_isFull_j66 o g l1
def xRoadReader_isFull_j32 (o : Nat) (g : GS) (l1 : Int) : Option Int :=
  if ¬ w32 l1 = w32 2 then
    xRoadReader_isFull_j49 o g l1
  else
    if w32 (gI g 815 (o + 3)) = w32 6 then
      some 1
    else
      xRoadReader_isFull_j49 o g l1
def xRoadReader_isFull_j15 (o : Nat) (g : GS) (l1 : Int) : Option Int :=
  if ¬ w32 l1 = w32 1 then
    xRoadReader_isFull_j32 o g l1
  else
    if w32 (gI g 814 (o + 3)) = w32 12 then
      some 1
    else
      xRoadReader_isFull_j32 o g l1
def xRoadReader_isFull (o : Nat) (g : GS) (l1 : Int) : Option Int :=
  if ¬ w32 l1 = 0 then
    xRoadReader_isFull_j15 o g l1
  else
    if w32 (gI g 813 (o + 3)) = w32 4 then
      some 1
    else
      xRoadReader_isFull_j15 o g l1
def xReader_skipsWord_b0 (N : Nat) (o : Nat) (g : GS) : Option ((GS) ⊕ GS) :=
  (xReader_byteAt o g (gI g 1102 o)).bind fun c5 =>
  (xReader_isSmall c5).bind fun c8 =>
  if w32 c8 = 0 then
    outR (some g)
  else
    some (.inl (sI g 1102 o ((gI g 1102 o) + 1)))
def xReader_skipsWord (N : Nat) (o : Nat) (g : GS) : Option GS :=
  loopN (fun s => xReader_skipsWord_b0 N o s) N g
def xReader_isDigit (l0 : Int) : Option Int :=
  if w32 l0 < w32 48 then
    some 0
  else
    if w32 57 < w32 l0 then
      some 0
    else
      some 1
def xReader_closes (o : Nat) (g : GS) : Option GS :=
  some (sI g 1103 o ((gI g 1103 o) - 1))
def xReader_takesSign_j13 (N : Nat) (o : Nat) (g : GS) (s0 : Int) : Option (Int × GS) :=
  if w32 s0 = 0 then
    rtZ s0 (some (s0, g))
  else
    rtZ s0 (some (s0, (sI g 1102 o ((gI g 1102 o) + 1))))
def xReader_takesSign (N : Nat) (o : Nat) (g : GS) (l1 : Int) : Option (Int × GS) :=
  (xReader_now N o g).bind fun c1 =>
  if ¬ w32 c1.1 = w32 l1 then
    xReader_takesSign_j13 N o c1.2 0
  else
    xReader_takesSign_j13 N o c1.2 1
def xPlan_lineOf_b2 (N : Nat) (o : Nat) (g : GS) (l1 : Int) (l2 : Int) : Option ((Int) ⊕ Int) :=
  if w32 (gI g 202 o) ≤ w32 l2 then
    outR (some (-1))
  else
    (rdA g (o + 1) 12 l2).bind fun v15 =>
    if ¬ w32 v15 = w32 l1 then
      some (.inl (l2 + 1))
    else
      outR (some l2)
def xPlan_lineOf (N : Nat) (o : Nat) (g : GS) (l1 : Int) : Option Int :=
  loopN (fun s => xPlan_lineOf_b2 N o g l1 s) N 0
def xPlan_as (o : Nat) (l1 : Nat) (g : GS) : Option GS :=
  some (cpA (cpA (sI g 202 o (gI g 202 l1)) (l1 + 1) (o + 1) 12) (l1 + 2) (o + 2) 12)
def x_fault (g : GS) : Option Int :=
  some (gI g 14 0)
def xRoad_isRain_b2 (N : Nat) (o : Nat) (g : GS) (l1 : Int) (l2 : Int) : Option ((Int) ⊕ Int) :=
  if w32 (gI g 815 o) ≤ w32 l2 then
    outR (some 0)
  else
    (rdA g (o + 7) 6 l2).bind fun v16 =>
    if w32 l1 < w32 v16 then
      some (.inl (l2 + 1))
    else
      (rdA g (o + 8) 6 l2).bind fun v26 =>
      if w32 v26 < w32 l1 then
        some (.inl (l2 + 1))
      else
        outR (some 1)
def xRoad_isRain (N : Nat) (o : Nat) (g : GS) (l1 : Int) : Option Int :=
  loopN (fun s => xRoad_isRain_b2 N o g l1 s) N 0
def xWatch_starts_b28 (N : Nat) (o : Nat) (l1 : Nat) (g : GS) (l2 : Int) : Option ((GS × Int) ⊕ (GS)) :=
  if w32 4 ≤ w32 l2 then
    some (.inr g)
  else
    (wrA g (o + 4) 4 l2 0).bind fun g39 =>
    (wrA g39 (o + 5) 4 l2 0).bind fun g46 =>
    (wrA g46 (o + 6) 4 l2 0).bind fun g53 =>
    some (.inl (g53, (l2 + 1)))
def xWatch_starts_b7 (N : Nat) (o : Nat) (l1 : Nat) (g : GS) (l2 : Int) : Option ((GS × Int) ⊕ (GS)) :=
  if w32 12 ≤ w32 l2 then
    some (.inr g)
  else
    (wrA g (o + 3) 12 l2 (-1)).bind fun g19 =>
    some (.inl (g19, (l2 + 1)))
def xWatch_starts (N : Nat) (o : Nat) (l1 : Nat) (g : GS) : Option GS :=
  (loopN (fun s => xWatch_starts_b7 N o l1 s.1 s.2) N ((sI g 308 o (l1 : Int)), 0)).bind fun t1 =>
  (loopN (fun s => xWatch_starts_b28 N o l1 s.1 s.2) N (t1, 0)).bind fun t2 =>
  some (sI (sI (sI (sI t2 309 o 0) 310 o 0) 314 o 0) 312 o (-1))
def xRoad_strongOf_b4 (N : Nat) (o : Nat) (g : GS) (l1 : Int) (l2 : Int) (l3 : Int) : Option ((Int × Int) ⊕ Int) :=
  if w32 (gI g 813 o) ≤ w32 l3 then
    outR (some l2)
  else
    if ¬ w32 (i_and (i_shr l1 l3) 1) = w32 1 then
      some (.inl (l2, (l3 + 1)))
    else
      (rdA g (o + 1) 4 l3).bind fun v27 =>
      some (.inl ((l2 + v27), (l3 + 1)))
def xRoad_strongOf (N : Nat) (o : Nat) (g : GS) (l1 : Int) : Option Int :=
  loopN (fun s => xRoad_strongOf_b4 N o g l1 s.1 s.2) N (0, 0)
def xRoad_isDone (N : Nat) (o : Nat) (g : GS) (l1 : Int) (l2 : Int) : Option Int :=
  (rdA g (o + 4) 12 l1).bind fun v9 =>
  if ¬ w32 (i_bits l2) = w32 v9 then
    some 0
  else
    (xRoad_strongOf N o g l2).bind fun c15 =>
    (rdA g (o + 5) 12 l1).bind fun v23 =>
    if w32 c15 < w32 v23 then
      some 0
    else
      some 1
def xWatch_isReady_b2 (N : Nat) (K : Nat → Nat) (o : Nat) (g : GS) (l1 : Int) (l2 : Int) : Option ((Int) ⊕ Int) :=
  if w32 l1 ≤ w32 l2 then
    outR (some 1)
  else
    (rdR K g 308 o 9).bind fun i8 =>
    (rdA g (i8 + 6) 12 l1).bind fun v15 =>
    if ¬ w32 (i_and (i_shr v15 l2) 1) = w32 1 then
      some (.inl (l2 + 1))
    else
      (rdA g (o + 3) 12 l2).bind fun v29 =>
      if ¬ w32 v29 = w32 (-1) then
        some (.inl (l2 + 1))
      else
        outR (some 0)
def xWatch_isReady (N : Nat) (K : Nat → Nat) (o : Nat) (g : GS) (l1 : Int) : Option Int :=
  loopN (fun s => xWatch_isReady_b2 N K o g l1 s) N 0
def xWatch_draw (o : Nat) (g : GS) : Option (Int × GS) :=
  some ((i_rem (i_and (i_shr (gI (sI g 311 o (((gI g 311 o) * 1103515245) + 12345)) 311 o) 16) 32767) 16), (sI g 311 o (((gI g 311 o) * 1103515245) + 12345)))
def xRoad_rainIn_b5 (N : Nat) (o : Nat) (g : GS) (l2 : Int) (l3 : Int) (l4 : Int) : Option ((Int × Int) ⊕ Int) :=
  if w32 l2 ≤ w32 l4 then
    outR (some l3)
  else
    if w32 240 < w32 l4 then
      outR (some l3)
    else
      (xRoad_isRain N o g l4).bind fun c22 =>
      if w32 c22 = 0 then
        some (.inl (l3, (l4 + 1)))
      else
        some (.inl ((l3 + 1), (l4 + 1)))
def xRoad_rainIn (N : Nat) (o : Nat) (g : GS) (l1 : Int) (l2 : Int) : Option Int :=
  loopN (fun s => xRoad_rainIn_b5 N o g l2 s.1 s.2) N (0, l1)
def xWatch_works (o : Nat) (g : GS) (l1 : Int) (l2 : Int) (l3 : Int) (l4 : Int) : Option GS :=
  (wrA g (o + 4) 4 l1 l2).bind fun g6 =>
  (rdA g6 (o + 6) 4 l1).bind fun v13 =>
  (wrA g6 (o + 6) 4 l1 (v13 + l3)).bind fun g16 =>
  (rdA g16 (o + 5) 4 l1).bind fun v23 =>
  (wrA g16 (o + 5) 4 l1 (v23 + l4)).bind fun g27 =>
  some g27
def xWatch_longer (o : Nat) (g : GS) (l1 : Int) (l2 : Int) : Option GS :=
  some (sI (sI g 312 o l1) 313 o l2)
def xRoad_ahead_b11 (N : Nat) (o : Nat) (g : GS) (l2 : Int) (l3 : Int) : Option ((Int × Int) ⊕ Int) :=
  if w32 l3 < 0 then
    outR (some l2)
  else
    if ¬ w32 (i_and (i_shr l2 l3) 1) = w32 1 then
      some (.inl (l2, (l3 + (-1))))
    else
      (rdA g (o + 6) 12 l3).bind fun v30 =>
      some (.inl ((i_or l2 v30), (l3 + (-1))))
def xRoad_ahead (N : Nat) (o : Nat) (g : GS) (l1 : Int) : Option Int :=
  (rdA g (o + 6) 12 l1).bind fun v5 =>
  loopN (fun s => xRoad_ahead_b11 N o g s.1 s.2) N (v5, (l1 - 1))
def xRoad_chain_F_b4 (N : Nat) (R_chain : GS → Int → Option Int) (o : Nat) (g : GS) (l1 : Int) (l2 : Int) (l3 : Int) : Option ((Int × Int) ⊕ (Int)) :=
  if w32 l1 ≤ w32 l3 then
    some (.inr l2)
  else
    (rdA g (o + 6) 12 l1).bind fun v14 =>
    if ¬ w32 (i_and (i_shr v14 l3) 1) = w32 1 then
      some (.inl (l2, (l3 + 1)))
    else
      (R_chain g l3).bind fun c26 =>
      some (.inl ((imax l2 c26), (l3 + 1)))
def xRoad_chain_F (N : Nat) (R_chain : GS → Int → Option Int) (o : Nat) (g : GS) (l1 : Int) : Option Int :=
  (loopN (fun s => xRoad_chain_F_b4 N R_chain o g l1 s.1 s.2) N (0, 0)).bind fun t1 =>
  (rdA g (o + 2) 12 l1).bind fun v45 =>
  some (t1 + v45)
def xRoad_chain_R (N : Nat) (o : Nat) : Nat → GS → Int → Option Int
  | 0 => fun _ _ => none
  | d + 1 => xRoad_chain_F N (xRoad_chain_R N o d) o
def xRoad_chain (N : Nat) (o : Nat) : GS → Int → Option Int := xRoad_chain_R N o 16
def xWatch_allWet_b4 (N : Nat) (o : Nat) (g : GS) (l1 : Int) (l2 : Int) : Option ((Int × Int) ⊕ Int) :=
  if w32 4 ≤ w32 l2 then
    outR (some l1)
  else
    (rdA g (o + 5) 4 l2).bind fun v15 =>
    some (.inl ((l1 + v15), (l2 + 1)))
def xWatch_allWet (N : Nat) (o : Nat) (g : GS) : Option Int :=
  loopN (fun s => xWatch_allWet_b4 N o g s.1 s.2) N (0, 0)
def xWatch_as (K : Nat → Nat) (o : Nat) (l1 : Nat) (g : GS) : Option GS :=
  (rdR K g 308 l1 9).bind fun i2 =>
  some (sI (cpA (cpA (cpA (sI g 308 o (i2 : Int)) (l1 + 3) (o + 3) 12) (l1 + 4) (o + 4) 4) (l1 + 5) (o + 5) 4) 309 o (gI (cpA (cpA (cpA (sI g 308 o (i2 : Int)) (l1 + 3) (o + 3) 12) (l1 + 4) (o + 4) 4) (l1 + 5) (o + 5) 4) 309 l1))
def xRoad_sinks_b6 (N : Nat) (o : Nat) (g : GS) (l1 : Int) (l2 : Int) (l3 : Int) (l4 : Int) (l5 : Int) : Option ((Int × Int) ⊕ (Int)) :=
  if w32 (gI g 816 o) ≤ w32 l5 then
    some (.inr l4)
  else
    if ¬ w32 (i_and (i_shr l2 l5) 1) = w32 1 then
      some (.inl (l4, (l5 + 1)))
    else
      (rdA g (o + 10) 6 l5).bind fun v33 =>
      some (.inl ((l4 + v33), (l5 + 1)))
def xRoad_sinks (N : Nat) (o : Nat) (g : GS) (l1 : Int) (l2 : Int) (l3 : Int) : Option Int :=
  (loopN (fun s => xRoad_sinks_b6 N o g l1 l2 l3 s.1 s.2) N (1, 0)).bind fun t1 =>
  dvI t1 <|
  (rdA g (o + 9) 60 l1).bind fun v57 =>
  some (l3 * (imax 0 ((i_div (gI g 819 o) t1) - v57)))
def x_loosens (K : Nat → Nat) (g : GS) (l1 : Int) (l2 : Int) : Option Int :=
  (rdR K g 12 0 9).bind fun i7 =>
  (rdA g (i7 + 11) 8 l1).bind fun v14 =>
  some (imax 0 (imin 16 ((2 * l2) - v14)))
def x_meanOf_b6 (N : Nat) (K : Nat → Nat) (g : GS) (l1 : Int) (l2 : Int) (l3 : Int) (l4 : Int) (l6 : Int) : Option ((Int × Int) ⊕ (Int)) :=
  if w32 l1 < w32 l6 then
    some (.inr l4)
  else
    (rdR K g 12 0 9).bind fun i15 =>
    (rdR K g 12 0 9).bind fun i25 =>
    (x_power N (16 - (gI g 820 i25)) (l6 - 1)).bind fun c36 =>
    (x_power N 16 (8 - l6)).bind fun c47 =>
    some (.inl ((l4 + ((((w32 (gI g 820 i15)) * c36) * c47) * (w32 (l6 + l3)))), (l6 + 1)))
def x_meanOf (N : Nat) (K : Nat → Nat) (g : GS) (l1 : Int) (l2 : Int) (l3 : Int) : Option Int :=
  (loopN (fun s => x_meanOf_b6 N K g l1 l2 l3 s.1 s.2) N (0, 1)).bind fun t1 =>
  (rdR K g 12 0 9).bind fun i71 =>
  (x_power N (16 - (gI g 820 i71)) l1).bind fun c79 =>
  (x_power N 16 (8 - l1)).bind fun c88 =>
  some (t1 + ((c79 * c88) * (w32 (l1 + l2))))
def xRing_lacks (l0 : Int) (l1 : Int) (l2 : Int) : Option Int :=
  some ((i_div l0 2) - (imin (iabs (l1 - l2)) (l0 - (iabs (l1 - l2)))))
def xRing_tries_F_j144 (N : Nat) (R_tries : GS → Int → Int → Int → Option GS) (g : GS) (l1 : Int) (l2 : Int) (l3 : Int) (l4 : Int) (s0 : Int) (s1 : Int) (s2 : Int) (s3 : Int) : Option ((GS × Int) ⊕ GS) :=
  (R_tries g s3 s2 (s1 + s0)).bind fun c145 =>
  some (.inl (c145, (l4 + 1)))
def xRing_tries_F_b78 (N : Nat) (R_tries : GS → Int → Int → Int → Option GS) (l1 : Int) (l2 : Int) (l3 : Int) (g : GS) (l4 : Int) : Option ((GS × Int) ⊕ GS) :=
  if w32 (gI g 601 76) ≤ w32 l4 then
    outR (some g)
  else
    if ¬ w32 (i_and (i_shr l2 l4) 1) = w32 1 then
      (wrA g 77 6 l1 l4).bind fun g107 =>
      if ¬ w32 l1 = 0 then
        (rdA g107 77 6 (l1 - 1)).bind fun v138 =>
        (xRing_lacks (gI g107 601 76) v138 l4).bind fun c141 =>
        xRing_tries_F_j144 N R_tries g107 l1 l2 l3 l4 c141 l3 (i_or l2 (i_shl 1 l4)) (l1 + 1)
      else
        xRing_tries_F_j144 N R_tries g107 l1 l2 l3 l4 0 l3 (i_or l2 (i_shl 1 l4)) (l1 + 1)
    else
      some (.inl (g, (l4 + 1)))
def xRing_tries_F_b38 (N : Nat) (R_tries : GS → Int → Int → Int → Option GS) (g : GS) (l4 : Int) : Option ((GS × Int) ⊕ GS) :=
  if w32 (gI g 601 76) ≤ w32 l4 then
    outR (some g)
  else
    (rdA g 77 6 l4).bind fun v61 =>
    some (.inl ((sI g 603 76 (((10 * (gI g 603 76)) + v61) + 1)), (l4 + 1)))
def xRing_tries_F_j17 (N : Nat) (R_tries : GS → Int → Int → Int → Option GS) (g : GS) (l1 : Int) (l2 : Int) (l3 : Int) : Option GS :=
  if ¬ w32 l1 = w32 (gI g 601 76) then
    loopN (fun s => xRing_tries_F_b78 N R_tries l1 l2 l3 s.1 s.2) N (g, 0)
  else
    loopN (fun s => xRing_tries_F_b38 N R_tries s.1 s.2) N ((sI (sI g 602 76 l3) 603 76 0), 0)
def xRing_tries_F (N : Nat) (R_tries : GS → Int → Int → Int → Option GS) (g : GS) (l1 : Int) (l2 : Int) (l3 : Int) : Option GS :=
  if w32 (gI g 602 76) = w32 (-1) then
    xRing_tries_F_j17 N R_tries g l1 l2 l3
  else
    if w32 l3 < w32 (gI g 602 76) then
      xRing_tries_F_j17 N R_tries g l1 l2 l3
    else
      some g
def xRing_tries_R (N : Nat) : Nat → GS → Int → Int → Int → Option GS
  | 0 => fun _ _ _ _ => none
  | d + 1 => xRing_tries_F N (xRing_tries_R N d)
def xRing_tries (N : Nat) : GS → Int → Int → Int → Option GS := xRing_tries_R N 16
def xRing_finds (N : Nat) (g : GS) (l1 : Int) : Option GS :=
  (xRing_tries N (sI (sI g 601 76 l1) 602 76 (-1)) 0 0 0).bind fun c14 =>
  some c14
def xMiles_asks_j128 (N : Nat) (g : GS) (l1 : Int) (l2 : Int) (l5 : Int) (l8 : Int) (l9 : Int) : Option ((Int × Int × Int) ⊕ (Int × Int)) :=
  some (.inl (l8, l9, (l5 + 1)))
def xMiles_asks_j55 (N : Nat) (g : GS) (l1 : Int) (l2 : Int) (l3 : Int) (l4 : Int) (l5 : Int) (l6 : Int) (s0 : Int) : Option ((Int × Int × Int) ⊕ (Int × Int)) :=
  (rdA g 79 100 s0).bind fun v85 =>
  (rdA g 80 100 s0).bind fun v97 =>
  if w32 l3 = w32 (-1) then
    xMiles_asks_j128 N g l1 l2 l5 ((((4 * l5) + 2) + (i_div ((imax 0 (30 - l6)) + 9) 10)) + v85) (l5 + v97)
  else
    if w32 l3 < w32 ((((4 * l5) + 2) + (i_div ((imax 0 (30 - l6)) + 9) 10)) + v85) then
      some (.inl (l3, l4, (l5 + 1)))
    else
      if ¬ w32 ((((4 * l5) + 2) + (i_div ((imax 0 (30 - l6)) + 9) 10)) + v85) = w32 l3 then
        xMiles_asks_j128 N g l1 l2 l5 ((((4 * l5) + 2) + (i_div ((imax 0 (30 - l6)) + 9) 10)) + v85) (l5 + v97)
      else
        if w32 (l5 + v97) < w32 l4 then
          xMiles_asks_j128 N g l1 l2 l5 ((((4 * l5) + 2) + (i_div ((imax 0 (30 - l6)) + 9) 10)) + v85) (l5 + v97)
        else
          some (.inl (l3, l4, (l5 + 1)))
def xMiles_asks_b8 (N : Nat) (g : GS) (l1 : Int) (l2 : Int) (l3 : Int) (l4 : Int) (l5 : Int) : Option ((Int × Int × Int) ⊕ (Int × Int)) :=
  if w32 10 < w32 l5 then
    some (.inr (l3, l4))
  else
    if w32 5 ≤ w32 (imin 99 (l1 + (10 * l5))) then
      if w32 l2 = 0 then
        xMiles_asks_j55 N g l1 l2 l3 l4 l5 (imin 99 (l1 + (10 * l5))) (imin 99 (l1 + (10 * l5)))
      else
        xMiles_asks_j55 N g l1 l2 l3 l4 l5 (imin 99 (l1 + (10 * l5))) (imax 0 ((imin 99 (l1 + (10 * l5))) - 1))
    else
      some (.inl (l3, l4, (l5 + 1)))
def xMiles_asks (N : Nat) (g : GS) (l1 : Int) (l2 : Int) : Option GS :=
  (loopN (fun s => xMiles_asks_b8 N g l1 l2 s.1 s.2.1 s.2.2) N ((-1), 0, 0)).bind fun t1 =>
  (wrA g 81 100 l1 t1.1).bind fun g147 =>
  (wrA g147 82 100 l1 t1.2).bind fun g155 =>
  some g155
def xMiles_lays_j57 (N : Nat) (g : GS) (l2 : Int) (l3 : Int) (l4 : Int) (s0 : Int) (s1 : Int) : Option ((GS × Int) ⊕ (GS)) :=
  (xMiles_asks N g s1 s0).bind fun c57 =>
  some (.inl (c57, (l4 + (-1))))
def xMiles_lays_b38 (N : Nat) (l2 : Int) (l3 : Int) (g : GS) (l4 : Int) : Option ((GS × Int) ⊕ (GS)) :=
  if w32 l4 < 0 then
    some (.inr g)
  else
    dvI l2 <|
    if ¬ w32 (i_rem l3 l2) = 0 then
      xMiles_lays_j57 N g l2 l3 l4 0 l4
    else
      xMiles_lays_j57 N g l2 l3 l4 1 l4
def xMiles_lays_b30 (N : Nat) (l2 : Int) (g : GS) (l3 : Int) : Option ((GS × Int) ⊕ GS) :=
  if w32 l3 ≤ 0 then
    outR (some g)
  else
    (loopN (fun s => xMiles_lays_b38 N l2 l3 s.1 s.2) N (g, 99)).bind fun t2 =>
    some (.inl ((cpA (cpA t2 81 79 100) 82 80 100), (l3 + (-1))))
def xMiles_lays_b2 (N : Nat) (l1 : Int) (l2 : Int) (g : GS) (l3 : Int) : Option ((GS × Int) ⊕ (GS)) :=
  if w32 99 < w32 l3 then
    some (.inr g)
  else
    (wrA g 79 100 l3 0).bind fun g14 =>
    (wrA g14 80 100 l3 0).bind fun g21 =>
    some (.inl (g21, (l3 + 1)))
def xMiles_lays (N : Nat) (g : GS) (l1 : Int) (l2 : Int) : Option GS :=
  (loopN (fun s => xMiles_lays_b2 N l1 l2 s.1 s.2) N (g, 0)).bind fun t3 =>
  loopN (fun s => xMiles_lays_b30 N l2 s.1 s.2) N (t3, l1)
def x_weight_j83 (N : Nat) (K : Nat → Nat) (g : GS) (l1 : Int) (l2 : Int) (l3 : Int) (l5 : Int) (s0 : Int) (s1 : Int) : Option ((Int × Int) ⊕ Int) :=
  some (.inl ((s1 * s0), (l5 + 1)))
def x_weight_j37 (N : Nat) (K : Nat → Nat) (g : GS) (l1 : Int) (l2 : Int) (l3 : Int) (l4 : Int) (l5 : Int) (s0 : Int) : Option ((Int × Int) ⊕ Int) :=
  if w32 s0 = w32 (-1) then
    some (.inl (l4, (l5 + 1)))
  else
    if ¬ w32 s0 = w32 1 then
      (rdR K g 12 0 9).bind fun i71 =>
      (rdQ K g (i71 + 13) 4 l1 10003).bind fun i78 =>
      (rdA g i78 3 l5).bind fun v81 =>
      x_weight_j83 N K g l1 l2 l3 l5 (16 - v81) l4
    else
      (rdR K g 12 0 9).bind fun i54 =>
      (rdQ K g (i54 + 13) 4 l1 10003).bind fun i61 =>
      (rdA g i61 3 l5).bind fun v64 =>
      x_weight_j83 N K g l1 l2 l3 l5 v64 l4
def x_weight_b14 (N : Nat) (K : Nat → Nat) (g : GS) (l1 : Int) (l2 : Int) (l3 : Int) (l4 : Int) (l5 : Int) : Option ((Int × Int) ⊕ Int) :=
  if w32 3 ≤ w32 l5 then
    outR (some l4)
  else
    if ¬ w32 l5 = w32 l2 then
      (rdA g 13 3 l5).bind fun v36 =>
      x_weight_j37 N K g l1 l2 l3 l4 l5 v36
    else
      x_weight_j37 N K g l1 l2 l3 l4 l5 l3
def x_weight (N : Nat) (K : Nat → Nat) (g : GS) (l1 : Int) (l2 : Int) (l3 : Int) : Option Int :=
  (rdR K g 12 0 9).bind fun i1 =>
  (rdA g (i1 + 12) 4 l1).bind fun v8 =>
  loopN (fun s => x_weight_b14 N K g l1 l2 l3 s.1 s.2) N (v8, 0)
def x_likeliest_j38 (N : Nat) (K : Nat → Nat) (g : GS) (l1 : Int) (l2 : Int) (s0 : Int) (s1 : Int) : Option ((Int × Int) ⊕ Int) :=
  if w32 s1 ≤ w32 s0 then
    some (.inl (l1, (l2 + 1)))
  else
    some (.inl (l2, (l2 + 1)))
def x_likeliest_b4 (N : Nat) (K : Nat → Nat) (g : GS) (l1 : Int) (l2 : Int) : Option ((Int × Int) ⊕ Int) :=
  (rdR K g 12 0 9).bind fun i6 =>
  if w32 (gI g 818 i6) ≤ w32 l2 then
    outR (some l1)
  else
    (x_weight N K g l2 (-1) (-1)).bind fun c19 =>
    if ¬ w32 l1 = w32 (-1) then
      (x_weight N K g l1 (-1) (-1)).bind fun c35 =>
      x_likeliest_j38 N K g l1 l2 c35 c19
    else
      x_likeliest_j38 N K g l1 l2 0 c19
def x_likeliest (N : Nat) (K : Nat → Nat) (g : GS) : Option Int :=
  loopN (fun s => x_likeliest_b4 N K g s.1 s.2) N ((-1), 0)
def x_greatest_b5 (N : Nat) (K : Nat → Nat) (g : GS) (l1 : Int) (l2 : Int) (l3 : Int) (l4 : Int) : Option ((Int × Int) ⊕ Int) :=
  (rdR K g 12 0 9).bind fun i8 =>
  if w32 (gI g 818 i8) ≤ w32 l4 then
    outR (some l3)
  else
    (x_weight N K g l4 l1 l2).bind fun c23 =>
    some (.inl ((imax l3 c23), (l4 + 1)))
def x_greatest (N : Nat) (K : Nat → Nat) (g : GS) (l1 : Int) (l2 : Int) : Option Int :=
  loopN (fun s => x_greatest_b5 N K g l1 l2 s.1 s.2) N (0, 0)
def x_ask_j53 (N : Nat) (K : Nat → Nat) (g : GS) (l3 : Int) (l4 : Int) : Option ((Int × Int × Int) ⊕ Int) :=
  some (.inl (l3, l4, (l3 + 1)))
def x_ask_b6 (N : Nat) (K : Nat → Nat) (g : GS) (l1 : Int) (l2 : Int) (l3 : Int) : Option ((Int × Int × Int) ⊕ Int) :=
  if w32 3 ≤ w32 l3 then
    outR (some l1)
  else
    (rdA g 13 3 l3).bind fun v16 =>
    if w32 v16 = w32 (-1) then
      (x_greatest N K g l3 0).bind fun c27 =>
      (x_greatest N K g l3 1).bind fun c33 =>
      if w32 l1 = w32 (-1) then
        x_ask_j53 N K g l3 (c27 + c33)
      else
        if w32 l2 < w32 (c27 + c33) then
          x_ask_j53 N K g l3 (c27 + c33)
        else
          some (.inl (l1, l2, (l3 + 1)))
    else
      some (.inl (l1, l2, (l3 + 1)))
def x_ask (N : Nat) (K : Nat → Nat) (g : GS) : Option Int :=
  loopN (fun s => x_ask_b6 N K g s.1 s.2.1 s.2.2) N ((-1), 0, 0)
def xWatch_losing (K : Nat → Nat) (o : Nat) (g : GS) (l1 : Int) : Option GS :=
  (rdR K (sI g 311 o l1) 308 o 9).bind fun i7 =>
  some (sI (sI g 311 o l1) 314 o (gI (sI g 311 o l1) 821 i7))
def x_changes (K : Nat → Nat) (g : GS) : Option (Int × GS) :=
  if ¬ w32 (gI g 16 0) = w32 20 then
    (rdQ K (sI g 16 0 ((gI g 16 0) + 1)) 6 20 (gI g 16 0) 3).bind fun i26 =>
    (xPlan_as i26 3 (sI g 16 0 ((gI g 16 0) + 1))).bind fun c31 =>
    some (1, c31)
  else
    some (0, g)
def xPlan_flips (l0 : Nat) (n0 : Nat) (g : GS) (l1 : Int) (l2 : Int) : Option GS :=
  (rdA g l0 n0 l1).bind fun v2 =>
  (rdA g l0 n0 l2).bind fun v8 =>
  (wrA g l0 n0 l1 v8).bind fun g9 =>
  (wrA g9 l0 n0 l2 v2).bind fun g13 =>
  some g13
def xPlan_swaps (o : Nat) (g : GS) (l1 : Int) (l2 : Int) : Option GS :=
  (xPlan_flips (o + 1) 12 g l1 l2).bind fun c6 =>
  (xPlan_flips (o + 2) 12 c6 l1 l2).bind fun c15 =>
  some c15
def xPlan_drops_b12 (N : Nat) (o : Nat) (g : GS) (l2 : Int) : Option ((GS × Int) ⊕ GS) :=
  if w32 (gI g 202 o) ≤ w32 l2 then
    outR (some g)
  else
    (rdA g (o + 1) 12 (l2 + 1)).bind fun v32 =>
    (wrA g (o + 1) 12 l2 v32).bind fun g33 =>
    (rdA g33 (o + 2) 12 (l2 + 1)).bind fun v46 =>
    (wrA g33 (o + 2) 12 l2 v46).bind fun g47 =>
    some (.inl (g47, (l2 + 1)))
def xPlan_drops (N : Nat) (o : Nat) (g : GS) (l1 : Int) : Option GS :=
  loopN (fun s => xPlan_drops_b12 N o s.1 s.2) N ((sI g 202 o ((gI g 202 o) - 1)), l1)
def x_undo (K : Nat → Nat) (g : GS) : Option (Int × GS) :=
  if ¬ w32 (gI g 16 0) = 0 then
    (rdQ K (sI g 16 0 ((gI g 16 0) - 1)) 6 20 ((gI g 16 0) - 1) 3).bind fun i28 =>
    (xPlan_as 3 i28 (sI g 16 0 ((gI g 16 0) - 1))).bind fun c29 =>
    some ((gI c29 16 0), c29)
  else
    some ((-1), g)
def x_image_b12 (N : Nat) (K : Nat → Nat) (g : GS) (l1 : Int) : Option ((GS × Int) ⊕ (GS)) :=
  if w32 (gI g 16 0) ≤ w32 l1 then
    some (.inr g)
  else
    (rdQ K g 7 3 (gI g 17 0) 50021).bind fun i28 =>
    (rdQ K g i28 21 l1 3).bind fun i30 =>
    (rdQ K g 6 20 l1 3).bind fun i36 =>
    (xPlan_as i30 i36 g).bind fun c37 =>
    some (.inl (c37, (l1 + 1)))
def x_image (N : Nat) (K : Nat → Nat) (g : GS) : Option (Int × GS) :=
  if ¬ w32 (gI g 17 0) = w32 3 then
    (loopN (fun s => x_image_b12 N K s.1 s.2) N (g, 0)).bind fun t1 =>
    (rdQ K t1 7 3 (gI t1 17 0) 50021).bind fun i55 =>
    (rdQ K t1 i55 21 20 3).bind fun i58 =>
    (xPlan_as i58 3 t1).bind fun c63 =>
    (wrA c63 11 3 (gI c63 17 0) (gI c63 16 0)).bind fun g79 =>
    some (((gI g79 17 0) + 1), (sI g79 17 0 ((gI g79 17 0) + 1)))
  else
    some ((-1), g)
def x_restore_b34 (N : Nat) (K : Nat → Nat) (g : GS) (l1 : Int) : Option ((GS × Int) ⊕ (GS)) :=
  if w32 (gI g 16 0) ≤ w32 l1 then
    some (.inr g)
  else
    (rdQ K g 6 20 l1 3).bind fun i47 =>
    (rdQ K g 7 3 (gI g 17 0) 50021).bind fun i56 =>
    (rdQ K g i56 21 l1 3).bind fun i58 =>
    (xPlan_as i47 i58 g).bind fun c59 =>
    some (.inl (c59, (l1 + 1)))
def x_restore (N : Nat) (K : Nat → Nat) (g : GS) : Option (Int × GS) :=
  if ¬ w32 (gI g 17 0) = 0 then
    (rdA (sI g 17 0 ((gI g 17 0) - 1)) 11 3 (gI (sI g 17 0 ((gI g 17 0) - 1)) 17 0)).bind fun v28 =>
    (loopN (fun s => x_restore_b34 N K s.1 s.2) N ((sI (sI g 17 0 ((gI g 17 0) - 1)) 16 0 v28), 0)).bind fun t1 =>
    (rdQ K t1 7 3 (gI t1 17 0) 50021).bind fun i81 =>
    (rdQ K t1 i81 21 20 3).bind fun i84 =>
    (xPlan_as 3 i84 t1).bind fun c85 =>
    some ((gI c85 17 0), c85)
  else
    some ((-1), g)
def x_status (g : GS) (l1 : Int) : Option Int :=
  if w32 l1 < 0 then
    some (-1)
  else
    if w32 l1 ≤ w32 2 then
      (rdA g 12 3 l1).bind fun v18 =>
      some v18
    else
      some (-1)
def x_count (g : GS) (l1 : Int) : Option Int :=
  if ¬ w32 l1 = 0 then
    if ¬ w32 l1 = w32 1 then
      if ¬ w32 l1 = w32 2 then
        some (-1)
      else
        some (gI g 16 0)
    else
      some (gI g 13 0)
  else
    some (gI g 17 0)
def xSight_known (o : Nat) (g : GS) (l1 : Int) : Option Int :=
  if w32 l1 = 0 then
    some (gI g 400 o)
  else
    if w32 l1 = 1 then
      some (gI g 401 o)
    else
      if w32 l1 = 2 then
        some (gI g 402 o)
      else
        if w32 l1 = 3 then
          some (gI g 403 o)
        else
          if w32 l1 = 4 then
            some (gI g 404 o)
          else
            some (gI g 405 o)
def xAmount_on (o : Nat) (l1 : Nat) (g : GS) : Option Int :=
  some (gI g 1500 o)
def xKnown_on (o : Nat) (l1 : Nat) (g : GS) : Option Int :=
  (xSight_known l1 g (gI g 1600 o)).bind fun c5 =>
  some c5
