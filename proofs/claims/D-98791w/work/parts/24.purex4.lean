/-! RainWheel and what it is made of: methods as pure functions (printed by gen/xworld.py) -/
def xReader_number_j98 (N : Nat) (o : Nat) (sz : Nat) (g : GS) (l3 : Int) : Option ((Nat × GS) ⊕ (Int × GS)) :=
  some (.inl (3, (wrI sz 2 l3 (newI 12 sz g))))
def xReader_number_b35 (N : Nat) (o : Nat) (sz : Nat) (l1 : Int) (l2 : Int) (l3 : Int) (g : GS) (l4 : Int) : Option ((GS × Int) ⊕ (GS × Int)) :=
  (xReader_byteAt o g (gI g 1102 o)).bind fun c40 =>
  (xReader_isDigit c40).bind fun c43 =>
  if w32 c43 = 0 then
    some (.inr (g, l4))
  else
    (xReader_byteAt o g (gI g 1102 o)).bind fun c59 =>
    some (.inl ((sI g 1102 o ((gI g 1102 o) + 1)), (imin (((10 * l4) + c59) - 48) 1000000)))
def xReader_number (N : Nat) (o : Nat) (sz : Nat) (g : GS) (l1 : Int) (l2 : Int) : Option ((Nat × GS) ⊕ (Int × GS)) :=
  (xReader_place N o g).bind fun c1 =>
  (xReader_byteAt o c1.2 (gI c1.2 1102 o)).bind fun c13 =>
  (xReader_isDigit c13).bind fun c16 =>
  if ¬ w32 c16 = 0 then
    (loopN (fun s => xReader_number_b35 N o sz l1 l2 c1.1 s.1 s.2) N (c1.2, 0)).bind fun t1 =>
    if w32 t1.2 < w32 l1 then
      xReader_number_j98 N o sz t1.1 c1.1
    else
      if w32 t1.2 ≤ w32 l2 then
        some (.inr (t1.2, t1.1))
      else
        xReader_number_j98 N o sz t1.1 c1.1
  else
    some (.inl (3, (wrI sz 1 (gI (newI 12 sz c1.2) 1102 o) (newI 12 sz c1.2))))
def xRoadReader_deed (N : Nat) (o : Nat) (sz : Nat) (g : GS) (l1 : Int) : Option ((Nat × GS) ⊕ GS) :=
  (xReader_number N (o + 1) sz g 1 30).bind fun c15 =>
  thT c15 (fun x15 => some (.inl x15)) fun y15 =>
  (wrA y15.2 ((o + 3) + 2) 12 l1 y15.1).bind fun g18 =>
  (xReader_number N (o + 1) sz g18 0 1).bind fun c33 =>
  thT c33 (fun x33 => some (.inl x33)) fun y33 =>
  (wrA y33.2 ((o + 3) + 3) 12 l1 y33.1).bind fun g36 =>
  (xReader_number N (o + 1) sz g36 1 2).bind fun c51 =>
  thT c51 (fun x51 => some (.inl x51)) fun y51 =>
  (wrA y51.2 ((o + 3) + 4) 12 l1 y51.1).bind fun g54 =>
  (xReader_number N (o + 1) sz g54 0 18).bind fun c70 =>
  thT c70 (fun x70 => some (.inl x70)) fun y70 =>
  (wrA y70.2 ((o + 3) + 5) 12 l1 y70.1).bind fun g73 =>
  some (.inr (sI g73 814 (o + 3) ((gI g73 814 (o + 3)) + 1)))
def xRoadReader_rain (N : Nat) (o : Nat) (sz : Nat) (g : GS) (l1 : Int) : Option ((Nat × GS) ⊕ GS) :=
  (xReader_number N (o + 1) sz g 0 240).bind fun c16 =>
  thT c16 (fun x16 => some (.inl x16)) fun y16 =>
  (wrA y16.2 ((o + 3) + 7) 6 l1 y16.1).bind fun g19 =>
  (rdA g19 ((o + 3) + 7) 6 l1).bind fun v40 =>
  (xReader_number N (o + 1) sz g19 v40 240).bind fun c44 =>
  thT c44 (fun x44 => some (.inl x44)) fun y44 =>
  (wrA y44.2 ((o + 3) + 8) 6 l1 y44.1).bind fun g47 =>
  some (.inr (sI g47 815 (o + 3) ((gI g47 815 (o + 3)) + 1)))
def xRoadReader_cause_b21 (N : Nat) (K : Nat → Nat) (o : Nat) (sz : Nat) (l1 : Int) (g : GS) (l2 : Int) : Option ((GS × Int) ⊕ ((Nat × GS) ⊕ GS)) :=
  if w32 3 ≤ w32 l2 then
    outR (some (.inr (sI g 818 (o + 3) ((gI g 818 (o + 3)) + 1))))
  else
    (rdQ K g ((o + 3) + 13) 4 l1 10003).bind fun i34 =>
    (xReader_number N (o + 1) sz g 0 16).bind fun c43 =>
    thT c43 (fun x43 => outR (some (.inl x43))) fun y43 =>
    (wrA y43.2 i34 3 l2 y43.1).bind fun g46 =>
    some (.inl (g46, (l2 + 1)))
def xRoadReader_cause (N : Nat) (K : Nat → Nat) (o : Nat) (sz : Nat) (g : GS) (l1 : Int) : Option ((Nat × GS) ⊕ GS) :=
  (xReader_number N (o + 1) sz g 1 16).bind fun c15 =>
  thT c15 (fun x15 => some (.inl x15)) fun y15 =>
  (wrA y15.2 ((o + 3) + 12) 4 l1 y15.1).bind fun g18 =>
  loopN (fun s => xRoadReader_cause_b21 N K o sz l1 s.1 s.2) N (g18, 0)
def xReader_sign (N : Nat) (o : Nat) (sz : Nat) (g : GS) (l1 : Int) : Option ((Nat × GS) ⊕ GS) :=
  (xReader_now N o g).bind fun c1 =>
  if w32 c1.1 = w32 l1 then
    some (.inr (sI c1.2 1102 o ((gI c1.2 1102 o) + 1)))
  else
    some (.inl (3, (wrI sz 1 (gI (newI 12 sz c1.2) 1102 o) (newI 12 sz c1.2))))
def xReader_opens (N : Nat) (o : Nat) (sz : Nat) (g : GS) : Option ((Nat × GS) ⊕ GS) :=
  if ¬ w32 (gI g 1103 o) = w32 6 then
    some (.inr (sI g 1103 o ((gI g 1103 o) + 1)))
  else
    (xReader_place N o (newI 12 sz g)).bind fun c15 =>
    some (.inl (3, (wrI sz 3 c15.1 c15.2)))
def xReader_ends (N : Nat) (o : Nat) (sz : Nat) (g : GS) : Option ((Nat × GS) ⊕ GS) :=
  (xReader_now N o g).bind fun c1 =>
  if w32 c1.1 = w32 (-1) then
    some (.inr c1.2)
  else
    some (.inl (3, (wrI sz 1 (gI (newI 12 sz c1.2) 1102 o) (newI 12 sz c1.2))))
def xPlan_reads_j120 (N : Nat) (o : Nat) (l1 : Nat) (l2 : Nat) (sz : Nat) (g : GS) (l4 : Int) (l6 : Int) : Option ((GS) ⊕ ((Nat × GS) ⊕ GS)) :=
  (xReader_sign N l1 sz g 59).bind fun c123 =>
  thT c123 (fun x123 => outR (some (.inl x123))) fun y123 =>
  (wrA y123 (o + 2) 12 (gI y123 202 o) l6).bind fun g136 =>
  (wrA (sI g136 202 o ((gI g136 202 o) + 1)) (o + 1) 12 (gI g136 202 o) l4).bind fun g154 =>
  some (.inl g154)
def xPlan_reads_b0 (N : Nat) (o : Nat) (l1 : Nat) (l2 : Nat) (sz : Nat) (g : GS) : Option ((GS) ⊕ ((Nat × GS) ⊕ GS)) :=
  (xReader_now N l1 g).bind fun c1 =>
  if w32 c1.1 = w32 (-1) then
    outR (some (.inr c1.2))
  else
    (xReader_place N l1 c1.2).bind fun c9 =>
    (xReader_number N l1 sz c9.2 0 ((gI c9.2 814 l2) - 1)).bind fun c21 =>
    thT c21 (fun x21 => outR (some (.inl x21))) fun y21 =>
    (xPlan_lineOf N o y21.2 y21.1).bind fun c29 =>
    if w32 c29 = w32 (-1) then
      (xReader_number N l1 sz y21.2 0 ((gI y21.2 813 l2) - 1)).bind fun c54 =>
      thT c54 (fun x54 => outR (some (.inl x54))) fun y54 =>
      (xReader_now N l1 y54.2).bind fun c66 =>
      if w32 c66.1 = w32 59 then
        xPlan_reads_j120 N o l1 l2 sz c66.2 y21.1 (i_shl 1 y54.1)
      else
        (xReader_place N l1 c66.2).bind fun c75 =>
        (xReader_number N l1 sz c75.2 0 ((gI c75.2 813 l2) - 1)).bind fun c88 =>
        thT c88 (fun x88 => outR (some (.inl x88))) fun y88 =>
        if ¬ w32 y88.1 = w32 y54.1 then
          xPlan_reads_j120 N o l1 l2 sz y88.2 y21.1 (i_or (i_shl 1 y54.1) (i_shl 1 y88.1))
        else
          outR (some (.inl (3, (wrI sz 2 c75.1 (newI 12 sz y88.2)))))
    else
      outR (some (.inl (3, (wrI sz 2 c9.1 (newI 12 sz y21.2)))))
def xPlan_reads (N : Nat) (o : Nat) (l1 : Nat) (l2 : Nat) (sz : Nat) (g : GS) : Option ((Nat × GS) ⊕ GS) :=
  loopN (fun s => xPlan_reads_b0 N o l1 l2 sz s) N g
