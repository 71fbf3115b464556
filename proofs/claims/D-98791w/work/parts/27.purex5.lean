/-! RainWheel and what it is made of: methods as pure functions (printed by gen/xworld.py) -/
def xReader_which_b2 (N : Nat) (K : Nat → Nat) (o : Nat) (l1 : Nat) (w1 : Nat) (g : GS) (l2 : Int) : Option ((GS × Int) ⊕ (Int × GS)) :=
  if w32 (wln w1 : Int) ≤ w32 l2 then
    outR (some ((-1), g))
  else
    (rdW w1 l2).bind fun v11 =>
    (xReader_isWord N o (stx (wix w1 v11)) g).bind fun c12 =>
    if w32 c12.1 = 0 then
      some (.inl (c12.2, (l2 + 1)))
    else
      outR (some (l2, c12.2))
def xReader_which (N : Nat) (K : Nat → Nat) (o : Nat) (l1 : Nat) (w1 : Nat) (g : GS) : Option (Int × GS) :=
  loopN (fun s => xReader_which_b2 N K o l1 w1 s.1 s.2) N (g, 0)
def xRoadReader_clause_j478 (N : Nat) (K : Nat → Nat) (o : Nat) (sz : Nat) (g : GS) : Option ((Nat × GS) ⊕ GS) :=
  (xReader_sign N (o + 1) sz g 59).bind fun c484 =>
  thT c484 (fun x484 => some (.inl x484)) fun y484 =>
  some (.inr y484)
def xRoadReader_clause_j52 (N : Nat) (K : Nat → Nat) (o : Nat) (sz : Nat) (g : GS) (l1 : Int) : Option ((Nat × GS) ⊕ GS) :=
  some (.inl (3, (wrI sz 3 l1 (newI 12 sz g))))
def xRoadReader_clause (N : Nat) (K : Nat → Nat) (o : Nat) (sz : Nat) (g : GS) : Option ((Nat × GS) ⊕ GS) :=
  (xReader_place N (o + 1) g).bind fun c4 =>
  (xReader_which N K (o + 1) (o + 2) 0 c4.2).bind fun c16 =>
  if ¬ w32 c16.1 = w32 (-1) then
    if w32 (gI c16.2 1003 o) = w32 60 then
      xRoadReader_clause_j52 N K o sz c16.2 c4.1
    else
      (xRoadReader_isFull o c16.2 c16.1).bind fun c46 =>
      if w32 c46 = 0 then
        (xReader_skipsWord N (o + 1) c16.2).bind fun c66 =>
        if w32 c16.1 = 0 then
          (xReader_number N (o + 1) sz (sI c66 1003 o ((gI c66 1003 o) + 1)) 1 9).bind fun c161 =>
          thT c161 (fun x161 => some (.inl x161)) fun y161 =>
          (wrA y161.2 ((o + 3) + 1) 4 (gI (sI c66 1003 o ((gI c66 1003 o) + 1)) 813 (o + 3)) y161.1).bind fun g164 =>
          xRoadReader_clause_j478 N K o sz (sI g164 813 (o + 3) ((gI g164 813 (o + 3)) + 1))
        else
          if w32 c16.1 = 1 then
            (xRoadReader_deed N o sz (sI c66 1003 o ((gI c66 1003 o) + 1)) (gI (sI c66 1003 o ((gI c66 1003 o) + 1)) 814 (o + 3))).bind fun c189 =>
            thT c189 (fun x189 => some (.inl x189)) fun y189 =>
            xRoadReader_clause_j478 N K o sz y189
          else
            if w32 c16.1 = 2 then
              (xRoadReader_rain N o sz (sI c66 1003 o ((gI c66 1003 o) + 1)) (gI (sI c66 1003 o ((gI c66 1003 o) + 1)) 815 (o + 3))).bind fun c203 =>
              thT c203 (fun x203 => some (.inl x203)) fun y203 =>
              xRoadReader_clause_j478 N K o sz y203
            else
              if w32 c16.1 = 3 then
                (xReader_number N (o + 1) sz (sI c66 1003 o ((gI c66 1003 o) + 1)) 1 9).bind fun c230 =>
                thT c230 (fun x230 => some (.inl x230)) fun y230 =>
                (wrA y230.2 ((o + 3) + 10) 6 (gI (sI c66 1003 o ((gI c66 1003 o) + 1)) 816 (o + 3)) y230.1).bind fun g233 =>
                xRoadReader_clause_j478 N K o sz (sI g233 816 (o + 3) ((gI g233 816 (o + 3)) + 1))
              else
                if w32 c16.1 = 4 then
                  (xReader_number N (o + 1) sz (sI c66 1003 o ((gI c66 1003 o) + 1)) 0 15).bind fun c271 =>
                  thT c271 (fun x271 => some (.inl x271)) fun y271 =>
                  (wrA y271.2 ((o + 3) + 11) 8 (gI (sI c66 1003 o ((gI c66 1003 o) + 1)) 817 (o + 3)) y271.1).bind fun g274 =>
                  xRoadReader_clause_j478 N K o sz (sI g274 817 (o + 3) ((gI g274 817 (o + 3)) + 1))
                else
                  if w32 c16.1 = 5 then
                    (xRoadReader_cause N K o sz (sI c66 1003 o ((gI c66 1003 o) + 1)) (gI (sI c66 1003 o ((gI c66 1003 o) + 1)) 818 (o + 3))).bind fun c299 =>
                    thT c299 (fun x299 => some (.inl x299)) fun y299 =>
                    xRoadReader_clause_j478 N K o sz y299
                  else
                    if w32 c16.1 = 6 then
                      (xReader_number N (o + 1) sz (sI c66 1003 o ((gI c66 1003 o) + 1)) 0 ((gI (sI c66 1003 o ((gI c66 1003 o) + 1)) 814 (o + 3)) - 1)).bind fun c319 =>
                      thT c319 (fun x319 => some (.inl x319)) fun y319 =>
                      (rdA y319.2 ((o + 3) + 6) 12 y319.1).bind fun v332 =>
                      (xReader_number N (o + 1) sz y319.2 0 (y319.1 - 1)).bind fun c342 =>
                      thT c342 (fun x342 => some (.inl x342)) fun y342 =>
                      (wrA y342.2 ((o + 3) + 6) 12 y319.1 (i_or v332 (i_shl 1 y342.1))).bind fun g347 =>
                      xRoadReader_clause_j478 N K o sz g347
                    else
                      if w32 c16.1 = 7 then
                        (xReader_number N (o + 1) sz (sI c66 1003 o ((gI c66 1003 o) + 1)) 0 59).bind fun c358 =>
                        thT c358 (fun x358 => some (.inl x358)) fun y358 =>
                        (xReader_number N (o + 1) sz y358.2 0 20).bind fun c377 =>
                        thT c377 (fun x377 => some (.inl x377)) fun y377 =>
                        (wrA y377.2 ((o + 3) + 9) 60 y358.1 y377.1).bind fun g380 =>
                        xRoadReader_clause_j478 N K o sz g380
                      else
                        if w32 c16.1 = 8 then
                          (xReader_number N (o + 1) sz (sI c66 1003 o ((gI c66 1003 o) + 1)) 1 99).bind fun c395 =>
                          thT c395 (fun x395 => some (.inl x395)) fun y395 =>
                          xRoadReader_clause_j478 N K o sz (sI y395.2 819 (o + 3) y395.1)
                        else
                          if w32 c16.1 = 9 then
                            (xReader_number N (o + 1) sz (sI c66 1003 o ((gI c66 1003 o) + 1)) 0 16).bind fun c415 =>
                            thT c415 (fun x415 => some (.inl x415)) fun y415 =>
                            xRoadReader_clause_j478 N K o sz (sI y415.2 820 (o + 3) y415.1)
                          else
                            if w32 c16.1 = 10 then
                              (xReader_number N (o + 1) sz (sI c66 1003 o ((gI c66 1003 o) + 1)) 0 16).bind fun c435 =>
                              thT c435 (fun x435 => some (.inl x435)) fun y435 =>
                              xRoadReader_clause_j478 N K o sz (sI y435.2 821 (o + 3) y435.1)
                            else
                              (xReader_number N (o + 1) sz (sI c66 1003 o ((gI c66 1003 o) + 1)) 0 99).bind fun c455 =>
                              thT c455 (fun x455 => some (.inl x455)) fun y455 =>
                              (xReader_number N (o + 1) sz (sI y455.2 822 (o + 3) y455.1) 1 9).bind fun c472 =>
                              thT c472 (fun x472 => some (.inl x472)) fun y472 =>
                              xRoadReader_clause_j478 N K o sz (sI y472.2 823 (o + 3) y472.1)
      else
        xRoadReader_clause_j52 N K o sz c16.2 c4.1
  else
    some (.inl (3, (wrI sz 1 c4.1 (newI 12 sz c16.2))))
def xRoadReader_reads_b0 (N : Nat) (K : Nat → Nat) (o : Nat) (sz : Nat) (g : GS) : Option ((GS) ⊕ ((Nat × GS) ⊕ GS)) :=
  (xReader_now N (o + 1) g).bind fun c4 =>
  if w32 c4.1 = w32 (-1) then
    outR (some (.inr c4.2))
  else
    (xRoadReader_clause N K o sz c4.2).bind fun c12 =>
    thT c12 (fun x12 => outR (some (.inl x12))) fun y12 =>
    some (.inl y12)
def xRoadReader_reads (N : Nat) (K : Nat → Nat) (o : Nat) (sz : Nat) (g : GS) : Option ((Nat × GS) ⊕ GS) :=
  loopN (fun s => xRoadReader_reads_b0 N K o sz s) N g
