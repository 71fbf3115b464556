/-! RainWheel and what it is made of: methods as pure functions (printed by gen/xworld.py) -/
def xWatch_lasts_j87 (N : Nat) (K : Nat → Nat) (o : Nat) (g : GS) (l1 : Int) (l3 : Int) (s0 : Int) : Option (Int × GS) :=
  (rdR K (sI (sI g 403 (o + 7) s0) 404 (o + 7) l3) 308 o 9).bind fun i103 =>
  (rdA (sI (sI g 403 (o + 7) s0) 404 (o + 7) l3) (i103 + 3) 12 l1).bind fun v110 =>
  (xLaw_lasts K (o + 7) (sI (sI (sI g 403 (o + 7) s0) 404 (o + 7) l3) 405 (o + 7) v110)).bind fun c122 =>
  some (c122, (sI (sI (sI g 403 (o + 7) s0) 404 (o + 7) l3) 405 (o + 7) v110))
def xWatch_lasts_j86 (N : Nat) (K : Nat → Nat) (o : Nat) (g : GS) (l1 : Int) (l3 : Int) : Option (Int × GS) :=
  xWatch_lasts_j87 N K o g l1 l3 0
def xWatch_lasts (N : Nat) (K : Nat → Nat) (o : Nat) (g : GS) (l1 : Int) (l2 : Int) (l3 : Int) : Option (Int × GS) :=
  (rdR K g 308 o 9).bind fun i5 =>
  (rdA g (i5 + 2) 12 l1).bind fun v12 =>
  (rdR K (sI g 400 (o + 7) v12) 308 o 9).bind fun i21 =>
  (rdA (sI g 400 (o + 7) v12) (i21 + 4) 12 l1).bind fun v28 =>
  (rdR K (sI (sI g 400 (o + 7) v12) 401 (o + 7) v28) 308 o 9).bind fun i37 =>
  (xRoad_strongOf N i37 (sI (sI g 400 (o + 7) v12) 401 (o + 7) v28) l2).bind fun c41 =>
  (rdR K (sI (sI (sI g 400 (o + 7) v12) 401 (o + 7) v28) 402 (o + 7) c41) 308 o 9).bind fun i52 =>
  (rdA (sI (sI (sI g 400 (o + 7) v12) 401 (o + 7) v28) 402 (o + 7) c41) (i52 + 3) 12 l1).bind fun v59 =>
  if ¬ w32 v59 = w32 1 then
    xWatch_lasts_j86 N K o (sI (sI (sI g 400 (o + 7) v12) 401 (o + 7) v28) 402 (o + 7) c41) l1 l3
  else
    if w32 240 < w32 l3 then
      xWatch_lasts_j86 N K o (sI (sI (sI g 400 (o + 7) v12) 401 (o + 7) v28) 402 (o + 7) c41) l1 l3
    else
      (rdR K (sI (sI (sI g 400 (o + 7) v12) 401 (o + 7) v28) 402 (o + 7) c41) 308 o 9).bind fun i72 =>
      (xRoad_isRain N i72 (sI (sI (sI g 400 (o + 7) v12) 401 (o + 7) v28) 402 (o + 7) c41) l3).bind fun c76 =>
      if w32 c76 = 0 then
        xWatch_lasts_j86 N K o (sI (sI (sI g 400 (o + 7) v12) 401 (o + 7) v28) 402 (o + 7) c41) l1 l3
      else
        xWatch_lasts_j87 N K o (sI (sI (sI g 400 (o + 7) v12) 401 (o + 7) v28) 402 (o + 7) c41) l1 l3 1
def xWatch_comes_b277 (N : Nat) (K : Nat → Nat) (o : Nat) (l1 : Int) (l3 : Int) (l5 : Int) (l6 : Int) (g : GS) (l7 : Int) : Option ((GS × Int) ⊕ (Int × GS)) :=
  (rdR K g 308 o 9).bind fun i280 =>
  if w32 (gI g 813 i280) ≤ w32 l7 then
    outR (some (1, g))
  else
    if ¬ w32 (i_and (i_shr l3 l7) 1) = w32 1 then
      some (.inl (g, (l7 + 1)))
    else
      (rdA g (o + 2) 12 l1).bind fun v307 =>
      (xWatch_works o g l7 v307 l5 l6).bind fun c312 =>
      some (.inl (c312, (l7 + 1)))
def xWatch_comes_j272 (N : Nat) (K : Nat → Nat) (o : Nat) (g : GS) (l1 : Int) (l3 : Int) (l5 : Int) (s0 : Int) : Option (Int × GS) :=
  loopN (fun s => xWatch_comes_b277 N K o l1 l3 l5 s0 s.1 s.2) N (g, 0)
def xWatch_comes_j192 (N : Nat) (K : Nat → Nat) (o : Nat) (g : GS) (l1 : Int) (l2 : Int) (l3 : Int) (l4 : Int) (l5 : Int) : Option (Int × GS) :=
  (wrA g (o + 1) 12 l1 l4).bind fun g199 =>
  (wrA g199 (o + 2) 12 l1 (l4 + l5)).bind fun g210 =>
  (rdA g210 (o + 2) 12 l1).bind fun v221 =>
  (wrA g210 (o + 3) 12 l2 v221).bind fun g222 =>
  (rdA g222 (o + 2) 12 l1).bind fun v233 =>
  (rdR K (sI g222 309 o (imax (gI g222 309 o) v233)) 308 o 9).bind fun i241 =>
  (rdA (sI g222 309 o (imax (gI g222 309 o) v233)) (i241 + 3) 12 l2).bind fun v248 =>
  if ¬ w32 v248 = w32 1 then
    xWatch_comes_j272 N K o (sI g222 309 o (imax (gI g222 309 o) v233)) l1 l3 l5 0
  else
    (rdR K (sI g222 309 o (imax (gI g222 309 o) v233)) 308 o 9).bind fun i254 =>
    (rdA (sI g222 309 o (imax (gI g222 309 o) v233)) (o + 2) 12 l1).bind fun v264 =>
    (xRoad_rainIn N i254 (sI g222 309 o (imax (gI g222 309 o) v233)) l4 v264).bind fun c265 =>
    xWatch_comes_j272 N K o (sI g222 309 o (imax (gI g222 309 o) v233)) l1 l3 l5 c265
def xWatch_comes_j155 (N : Nat) (K : Nat → Nat) (o : Nat) (g : GS) (l1 : Int) (l2 : Int) (l3 : Int) (l4 : Int) (s0 : Int) (s1 : Int) : Option (Int × GS) :=
  if w32 (gI g 314 o) ≤ 0 then
    xWatch_comes_j192 N K o g l1 l2 l3 l4 (s1 + s0)
  else
    (xWatch_draw o g).bind fun c166 =>
    if w32 (gI c166.2 314 o) ≤ w32 c166.1 then
      xWatch_comes_j192 N K o c166.2 l1 l2 l3 l4 (s1 + s0)
    else
      xWatch_comes_j192 N K o (sI c166.2 310 o ((gI c166.2 310 o) + 1)) l1 l2 l3 l4 ((s1 + s0) * 2)
def xWatch_comes_b89 (N : Nat) (K : Nat → Nat) (o : Nat) (g : GS) (l1 : Int) (l2 : Int) (l3 : Int) (l4 : Int) (l5 : Int) : Option ((Int × Int) ⊕ (Int)) :=
  (rdR K g 308 o 9).bind fun i92 =>
  if w32 (gI g 813 i92) ≤ w32 l5 then
    some (.inr l4)
  else
    if ¬ w32 (i_and (i_shr l3 l5) 1) = w32 1 then
      some (.inl (l4, (l5 + 1)))
    else
      (rdA g (o + 4) 4 l5).bind fun v119 =>
      some (.inl ((imax l4 v119), (l5 + 1)))
def xWatch_comes_b42 (N : Nat) (K : Nat → Nat) (o : Nat) (g : GS) (l1 : Int) (l2 : Int) (l3 : Int) (l4 : Int) (l5 : Int) : Option ((Int × Int) ⊕ (Int)) :=
  if w32 l2 ≤ w32 l5 then
    some (.inr l4)
  else
    (rdR K g 308 o 9).bind fun i49 =>
    (rdA g (i49 + 6) 12 l2).bind fun v56 =>
    if ¬ w32 (i_and (i_shr v56 l5) 1) = w32 1 then
      some (.inl (l4, (l5 + 1)))
    else
      (rdA g (o + 3) 12 l5).bind fun v74 =>
      some (.inl ((imax l4 v74), (l5 + 1)))
def xWatch_comes (N : Nat) (K : Nat → Nat) (o : Nat) (g : GS) (l1 : Int) (l2 : Int) (l3 : Int) : Option (Int × GS) :=
  (wrA g (o + 1) 12 l1 (-1)).bind fun g6 =>
  (wrA g6 (o + 2) 12 l1 (-1)).bind fun g13 =>
  (rdR K g13 308 o 9).bind fun i15 =>
  (xRoad_isDone N i15 g13 l2 l3).bind fun c20 =>
  if w32 c20 = 0 then
    some (0, g13)
  else
    (xWatch_isReady N K o g13 l2).bind fun c28 =>
    if ¬ w32 c28 = 0 then
      (loopN (fun s => xWatch_comes_b42 N K o g13 l1 l2 l3 s.1 s.2) N (0, 0)).bind fun t2 =>
      (loopN (fun s => xWatch_comes_b89 N K o g13 l1 l2 l3 s.1 s.2) N (t2, 0)).bind fun t3 =>
      (xWatch_lasts N K o g13 l2 l3 t3).bind fun c136 =>
      if ¬ w32 l2 = w32 (gI c136.2 312 o) then
        xWatch_comes_j155 N K o c136.2 l1 l2 l3 t3 0 c136.1
      else
        xWatch_comes_j155 N K o c136.2 l1 l2 l3 t3 (gI c136.2 313 o) c136.1
    else
      some (0, g13)
def xWatch_goes_b2 (N : Nat) (K : Nat → Nat) (o : Nat) (l1 : Nat) (g : GS) (l2 : Int) : Option ((GS × Int) ⊕ (GS)) :=
  if w32 (gI g 202 l1) ≤ w32 l2 then
    some (.inr g)
  else
    (rdA g (l1 + 1) 12 l2).bind fun v17 =>
    (rdA g (l1 + 2) 12 l2).bind fun v23 =>
    (xWatch_comes N K o g l2 v17 v23).bind fun c24 =>
    some (.inl (c24.2, (l2 + 1)))
def xWatch_goes (N : Nat) (K : Nat → Nat) (o : Nat) (l1 : Nat) (g : GS) : Option GS :=
  (loopN (fun s => xWatch_goes_b2 N K o l1 s.1 s.2) N (g, 0)).bind fun t1 =>
  some t1
def x_gone (N : Nat) (K : Nat → Nat) (g : GS) : Option GS :=
  (rdR K g 12 0 9).bind fun i5 =>
  (xWatch_starts N 14 i5 g).bind fun c8 =>
  (xWatch_goes N K 14 3 c8).bind fun c15 =>
  some c15
def x_span (N : Nat) (K : Nat → Nat) (g : GS) : Option (Int × GS) :=
  (x_gone N K g).bind fun c1 =>
  some ((gI c1 309 14), c1)
def x_umbrella_j47 (N : Nat) (K : Nat → Nat) (g : GS) (l1 : Int) (l2 : Int) (s0 : Int) (s1 : Int) : Option ((Int × Int) ⊕ (Int × GS)) :=
  if w32 s1 ≤ w32 s0 then
    some (.inl (l1, (l2 + 1)))
  else
    some (.inl (l2, (l2 + 1)))
def x_umbrella_b9 (N : Nat) (K : Nat → Nat) (g : GS) (l1 : Int) (l2 : Int) : Option ((Int × Int) ⊕ (Int × GS)) :=
  (rdR K g 12 0 9).bind fun i11 =>
  if w32 (gI g 813 i11) ≤ w32 l2 then
    outR (some (l1, g))
  else
    (rdA g 19 4 l2).bind fun v28 =>
    if ¬ w32 l1 = w32 (-1) then
      (rdA g 19 4 l1).bind fun v46 =>
      x_umbrella_j47 N K g l1 l2 v46 v28
    else
      x_umbrella_j47 N K g l1 l2 0 v28
def x_umbrella (N : Nat) (K : Nat → Nat) (g : GS) : Option (Int × GS) :=
  (x_gone N K g).bind fun c1 =>
  loopN (fun s => x_umbrella_b9 N K c1 s.1 s.2) N ((-1), 0)
def x_slackOf_b40 (N : Nat) (K : Nat → Nat) (l1 : Int) (l3 : Int) (g : GS) (l4 : Int) : Option ((GS × Int) ⊕ (Int × GS)) :=
  if w32 99 ≤ w32 l4 then
    outR (some (l4, g))
  else
    (rdR K g 12 0 9).bind fun i52 =>
    (xWatch_starts N 14 i52 g).bind fun c55 =>
    (xWatch_longer 14 c55 l1 (l4 + 1)).bind fun c63 =>
    (xWatch_goes N K 14 3 c63).bind fun c70 =>
    if w32 l3 < w32 (gI c70 309 14) then
      outR (some (l4, c70))
    else
      some (.inl (c70, (l4 + 1)))
def x_slackOf (N : Nat) (K : Nat → Nat) (g : GS) (l1 : Int) : Option (Int × GS) :=
  (xPlan_lineOf N 3 g l1).bind fun c5 =>
  (x_gone N K g).bind fun c10 =>
  if w32 c5 = w32 (-1) then
    some ((-1), c10)
  else
    (rdA c10 15 12 c5).bind fun v30 =>
    if ¬ w32 v30 = w32 (-1) then
      loopN (fun s => x_slackOf_b40 N K l1 (gI c10 309 14) s.1 s.2) N (c10, 0)
    else
      some ((-1), c10)
def x_urgent_b4 (N : Nat) (K : Nat → Nat) (g : GS) (l1 : Int) (l2 : Int) : Option ((GS × Int × Int) ⊕ (Int × GS)) :=
  (rdR K g 12 0 9).bind fun i6 =>
  if w32 (gI g 814 i6) ≤ w32 l2 then
    outR (some (l1, g))
  else
    (x_slackOf N K g l2).bind fun c17 =>
    if ¬ w32 c17.1 = 0 then
      some (.inl (c17.2, l1, (l2 + 1)))
    else
      some (.inl (c17.2, (i_or l1 (i_shl 1 l2)), (l2 + 1)))
def x_urgent (N : Nat) (K : Nat → Nat) (g : GS) : Option (Int × GS) :=
  loopN (fun s => x_urgent_b4 N K s.1 s.2.1 s.2.2) N (g, 0, 0)
def xSoonest_tries_F_b145 (N : Nat) (K : Nat → Nat) (R_tries : GS → Int → Int → Option GS) (l1 : Nat) (l2 : Int) (l3 : Int) (l4 : Nat) (l5 : Int) (g : GS) (l6 : Int) : Option ((GS × Int) ⊕ (GS)) :=
  if w32 (i_shl 1 (gI g 813 l1)) ≤ w32 l6 then
    some (.inr g)
  else
    (rdQ K g 23 6 (l2 + 1) 4).bind fun i163 =>
    (xWatch_as K i163 l4 g).bind fun c166 =>
    (xWatch_comes N K i163 c166 l2 l5 l6).bind fun c174 =>
    if ¬ w32 c174.1 = 0 then
      (wrA c174.2 24 5 l2 l5).bind fun g190 =>
      (wrA g190 25 5 l2 l6).bind fun g198 =>
      (R_tries g198 (l2 + 1) (i_or l3 (i_shl 1 l5))).bind fun c210 =>
      some (.inl (c210, (l6 + 1)))
    else
      some (.inl (c174.2, (l6 + 1)))
def xSoonest_tries_F_b120 (N : Nat) (K : Nat → Nat) (R_tries : GS → Int → Int → Option GS) (l1 : Nat) (l2 : Int) (l3 : Int) (l4 : Nat) (g : GS) (l5 : Int) : Option ((GS × Int) ⊕ GS) :=
  if w32 (gI g 814 l1) ≤ w32 l5 then
    outR (some g)
  else
    if ¬ w32 (i_and (i_shr l3 l5) 1) = w32 1 then
      (loopN (fun s => xSoonest_tries_F_b145 N K R_tries l1 l2 l3 l4 l5 s.1 s.2) N (g, 1)).bind fun t2 =>
      some (.inl (t2, (l5 + 1)))
    else
      some (.inl (g, (l5 + 1)))
def xSoonest_tries_F_j70 (N : Nat) (K : Nat → Nat) (R_tries : GS → Int → Int → Option GS) (l1 : Nat) (g : GS) (l4 : Nat) : Option GS :=
  (xWatch_allWet N l4 (sI g 505 22 (gI g 309 l4))).bind fun c82 =>
  some (cpA (cpA (sI (sI g 505 22 (gI g 309 l4)) 506 22 c82) 24 26 5) 25 27 5)
def xSoonest_tries_F_j29 (N : Nat) (K : Nat → Nat) (R_tries : GS → Int → Int → Option GS) (l1 : Nat) (g : GS) (l2 : Int) (l3 : Int) (l4 : Nat) : Option GS :=
  if ¬ w32 l2 = w32 (gI g 814 l1) then
    loopN (fun s => xSoonest_tries_F_b120 N K R_tries l1 l2 l3 l4 s.1 s.2) N (g, 0)
  else
    if w32 (gI g 505 22) = w32 (-1) then
      xSoonest_tries_F_j70 N K R_tries l1 g l4
    else
      if ¬ w32 (gI g 309 l4) = w32 (gI g 505 22) then
        xSoonest_tries_F_j70 N K R_tries l1 g l4
      else
        (xWatch_allWet N l4 g).bind fun c59 =>
        if w32 c59 < w32 (gI g 506 22) then
          xSoonest_tries_F_j70 N K R_tries l1 g l4
        else
          some g
def xSoonest_tries_F (N : Nat) (K : Nat → Nat) (R_tries : GS → Int → Int → Option GS) (l1 : Nat) (g : GS) (l2 : Int) (l3 : Int) : Option GS :=
  (rdQ K g 23 6 l2 4).bind fun i5 =>
  if w32 (gI g 505 22) = w32 (-1) then
    xSoonest_tries_F_j29 N K R_tries l1 g l2 l3 i5
  else
    if w32 (gI g 309 i5) ≤ w32 (gI g 505 22) then
      xSoonest_tries_F_j29 N K R_tries l1 g l2 l3 i5
    else
      some g
def xSoonest_tries_R (N : Nat) (K : Nat → Nat) (l1 : Nat) : Nat → GS → Int → Int → Option GS
  | 0 => fun _ _ _ => none
  | d + 1 => xSoonest_tries_F N K (xSoonest_tries_R N K l1 d) l1
def xSoonest_tries (N : Nat) (K : Nat → Nat) (l1 : Nat) : GS → Int → Int → Option GS := xSoonest_tries_R N K l1 8
def xSoonest_finds (N : Nat) (K : Nat → Nat) (l1 : Nat) (g : GS) : Option GS :=
  (rdQ K (sI g 505 22 (-1)) 23 6 0 4).bind fun i10 =>
  (xWatch_starts N i10 l1 (sI g 505 22 (-1))).bind fun c12 =>
  (xSoonest_tries N K l1 c12 0 0).bind fun c20 =>
  some c20
def x_lost (N : Nat) (K : Nat → Nat) (g : GS) (l1 : Int) : Option GS :=
  (rdR K g 12 0 9).bind fun i5 =>
  (xWatch_starts N 14 i5 g).bind fun c8 =>
  (xWatch_losing K 14 c8 l1).bind fun c12 =>
  (xWatch_goes N K 14 3 c12).bind fun c19 =>
  some c19
