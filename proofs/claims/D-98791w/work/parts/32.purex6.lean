/-! RainWheel and what it is made of: makers of cells, constructors (printed by gen/xmake.py) -/
def xLaw_init (o : Nat) (K : Nat → Nat) (sz : Nat) (g : GS) : Option S3 :=
  some (K, sz, g)
def xPlan_init (o : Nat) (K : Nat → Nat) (sz : Nat) (g : GS) : Option S3 :=
  lim (sz + 1) <|
  lim ((sz + 1) + 1) <|
  some ((ku (ku K sz 10012) (sz + 1) 10012), ((sz + 1) + 1), (sI (newA (sz + 1) 0 (sI (newA sz 0 g) 1900 o ((sz : Nat) : Int))) 1901 o (((sz + 1) : Nat) : Int)))
def xSight_init (o : Nat) (K : Nat → Nat) (sz : Nat) (g : GS) : Option S3 :=
  some (K, sz, g)
def xWatch_init (o : Nat) (l1 : Nat) (K : Nat → Nat) (sz : Nat) (g : GS) : Option S3 :=
  lim (sz + 1) <|
  lim ((sz + 1) + 1) <|
  lim (((sz + 1) + 1) + 1) <|
  lim ((((sz + 1) + 1) + 1) + 1) <|
  lim (((((sz + 1) + 1) + 1) + 1) + 1) <|
  lim ((((((sz + 1) + 1) + 1) + 1) + 1) + 1) <|
  lim (((((((sz + 1) + 1) + 1) + 1) + 1) + 1) + 1) <|
  (xSight_init ((((((sz + 1) + 1) + 1) + 1) + 1) + 1) (ku (ku (ku (ku (ku (ku (ku K sz 10012) (sz + 1) 10012) ((sz + 1) + 1) 10012) (((sz + 1) + 1) + 1) 10004) ((((sz + 1) + 1) + 1) + 1) 10004) (((((sz + 1) + 1) + 1) + 1) + 1) 10004) ((((((sz + 1) + 1) + 1) + 1) + 1) + 1) 5) (((((((sz + 1) + 1) + 1) + 1) + 1) + 1) + 1) (newI 4 ((((((sz + 1) + 1) + 1) + 1) + 1) + 1) (sI (newA (((((sz + 1) + 1) + 1) + 1) + 1) 0 (sI (newA ((((sz + 1) + 1) + 1) + 1) 0 (sI (newA (((sz + 1) + 1) + 1) 0 (sI (newA ((sz + 1) + 1) 0 (sI (newA (sz + 1) 0 (sI (newA sz 0 g) 2000 o ((sz : Nat) : Int))) 2001 o (((sz + 1) : Nat) : Int))) 2002 o ((((sz + 1) + 1) : Nat) : Int))) 2003 o (((((sz + 1) + 1) + 1) : Nat) : Int))) 2004 o ((((((sz + 1) + 1) + 1) + 1) : Nat) : Int))) 2005 o (((((((sz + 1) + 1) + 1) + 1) + 1) : Nat) : Int)))).bind fun c54 =>
  some (c54.1, c54.2.1, (sI (sI (sI c54.2.2 2006 o ((((((((sz + 1) + 1) + 1) + 1) + 1) + 1) : Nat) : Int)) 2012 o (-1)) 2007 o ((l1 : Nat) : Int)))
def xSoonest_init_b43 (N : Nat) (o : Nat) (l1 : Nat) (g : S3) (l2 : Int) : Option ((S3 × Int) ⊕ S3) :=
  if w32 5 < w32 l2 then
    outR (some g)
  else
    (rdR g.1 g.2.2 2200 o 70006).bind fun i49 =>
    lim (g.2.1 + 1) <|
    (xWatch_init g.2.1 l1 (ku g.1 g.2.1 21) (g.2.1 + 1) (newI 20 g.2.1 g.2.2)).bind fun c58 =>
    dnP 3 g.2.1 c58.1 c58.2.2 <|
    (wrA (dnI 3 g.2.1 c58.2.2) i49 6 l2 ((g.2.1 : Nat) : Int)).bind fun g61 =>
    some (.inl (((ku c58.1 g.2.1 4), c58.2.1, g61), (l2 + 1)))
def xSoonest_init (N : Nat) (o : Nat) (l1 : Nat) (K : Nat → Nat) (sz : Nat) (g : GS) : Option S3 :=
  lim (sz + 1) <|
  lim ((sz + 1) + 1) <|
  lim (((sz + 1) + 1) + 1) <|
  lim ((((sz + 1) + 1) + 1) + 1) <|
  lim (((((sz + 1) + 1) + 1) + 1) + 1) <|
  loopN (fun s => xSoonest_init_b43 N o l1 s.1 s.2) N (((ku (ku (ku (ku (ku K sz 70006) (sz + 1) 10005) ((sz + 1) + 1) 10005) (((sz + 1) + 1) + 1) 10005) ((((sz + 1) + 1) + 1) + 1) 10005), (((((sz + 1) + 1) + 1) + 1) + 1), (sI (newA ((((sz + 1) + 1) + 1) + 1) 0 (sI (newA (((sz + 1) + 1) + 1) 0 (sI (newA ((sz + 1) + 1) 0 (sI (newA (sz + 1) 0 (sI (newA sz (-1) g) 2200 o ((sz : Nat) : Int))) 2201 o (((sz + 1) : Nat) : Int))) 2202 o ((((sz + 1) + 1) : Nat) : Int))) 2203 o (((((sz + 1) + 1) + 1) : Nat) : Int))) 2204 o ((((((sz + 1) + 1) + 1) + 1) : Nat) : Int))), 0)
def xRing_init (o : Nat) (K : Nat → Nat) (sz : Nat) (g : GS) : Option S3 :=
  lim (sz + 1) <|
  some ((ku K sz 10006), (sz + 1), (sI (newA sz 0 g) 2300 o ((sz : Nat) : Int)))
def xMiles_init (o : Nat) (K : Nat → Nat) (sz : Nat) (g : GS) : Option S3 :=
  lim (sz + 1) <|
  lim ((sz + 1) + 1) <|
  lim (((sz + 1) + 1) + 1) <|
  lim ((((sz + 1) + 1) + 1) + 1) <|
  some ((ku (ku (ku (ku K sz 10100) (sz + 1) 10100) ((sz + 1) + 1) 10100) (((sz + 1) + 1) + 1) 10100), ((((sz + 1) + 1) + 1) + 1), (sI (newA (((sz + 1) + 1) + 1) 0 (sI (newA ((sz + 1) + 1) 0 (sI (newA (sz + 1) 0 (sI (newA sz 0 g) 2400 o ((sz : Nat) : Int))) 2401 o (((sz + 1) : Nat) : Int))) 2402 o ((((sz + 1) + 1) : Nat) : Int))) 2403 o (((((sz + 1) + 1) + 1) : Nat) : Int)))
def xRoad_init_b132 (N : Nat) (o : Nat) (g : S3) (l1 : Int) : Option ((S3 × Int) ⊕ S3) :=
  if w32 60 ≤ w32 l1 then
    outR (some g)
  else
    (rdR g.1 g.2.2 2508 o 10060).bind fun i139 =>
    (wrA g.2.2 i139 60 l1 3).bind fun g144 =>
    some (.inl ((g.1, g.2.1, g144), (l1 + 1)))
def xRoad_init (N : Nat) (o : Nat) (K : Nat → Nat) (sz : Nat) (g : GS) : Option S3 :=
  lim (sz + 1) <|
  lim ((sz + 1) + 1) <|
  lim (((sz + 1) + 1) + 1) <|
  lim ((((sz + 1) + 1) + 1) + 1) <|
  lim (((((sz + 1) + 1) + 1) + 1) + 1) <|
  lim ((((((sz + 1) + 1) + 1) + 1) + 1) + 1) <|
  lim (((((((sz + 1) + 1) + 1) + 1) + 1) + 1) + 1) <|
  lim ((((((((sz + 1) + 1) + 1) + 1) + 1) + 1) + 1) + 1) <|
  lim (((((((((sz + 1) + 1) + 1) + 1) + 1) + 1) + 1) + 1) + 1) <|
  lim ((((((((((sz + 1) + 1) + 1) + 1) + 1) + 1) + 1) + 1) + 1) + 1) <|
  lim (((((((((((sz + 1) + 1) + 1) + 1) + 1) + 1) + 1) + 1) + 1) + 1) + 1) <|
  lim ((((((((((((sz + 1) + 1) + 1) + 1) + 1) + 1) + 1) + 1) + 1) + 1) + 1) + 1) <|
  lim (((((((((((((sz + 1) + 1) + 1) + 1) + 1) + 1) + 1) + 1) + 1) + 1) + 1) + 1) + 1 + 4) <|
  loopN (fun s => xRoad_init_b132 N o s.1 s.2) N (((kuM (ku (ku (ku (ku (ku (ku (ku (ku (ku (ku (ku (ku K sz 10004) (sz + 1) 10012) ((sz + 1) + 1) 10012) (((sz + 1) + 1) + 1) 10012) ((((sz + 1) + 1) + 1) + 1) 10012) (((((sz + 1) + 1) + 1) + 1) + 1) 10012) ((((((sz + 1) + 1) + 1) + 1) + 1) + 1) 10006) (((((((sz + 1) + 1) + 1) + 1) + 1) + 1) + 1) 10006) ((((((((sz + 1) + 1) + 1) + 1) + 1) + 1) + 1) + 1) 10060) (((((((((sz + 1) + 1) + 1) + 1) + 1) + 1) + 1) + 1) + 1) 10006) ((((((((((sz + 1) + 1) + 1) + 1) + 1) + 1) + 1) + 1) + 1) + 1) 10008) (((((((((((sz + 1) + 1) + 1) + 1) + 1) + 1) + 1) + 1) + 1) + 1) + 1) 10004) ((((((((((((sz + 1) + 1) + 1) + 1) + 1) + 1) + 1) + 1) + 1) + 1) + 1) + 1) 4 80004 10003), (((((((((((((sz + 1) + 1) + 1) + 1) + 1) + 1) + 1) + 1) + 1) + 1) + 1) + 1) + 1 + 4), (sI (sI (sI (sI (sI (newM ((((((((((((sz + 1) + 1) + 1) + 1) + 1) + 1) + 1) + 1) + 1) + 1) + 1) + 1) 4 0 (sI (newA (((((((((((sz + 1) + 1) + 1) + 1) + 1) + 1) + 1) + 1) + 1) + 1) + 1) 0 (sI (newA ((((((((((sz + 1) + 1) + 1) + 1) + 1) + 1) + 1) + 1) + 1) + 1) 0 (sI (newA (((((((((sz + 1) + 1) + 1) + 1) + 1) + 1) + 1) + 1) + 1) 0 (sI (newA ((((((((sz + 1) + 1) + 1) + 1) + 1) + 1) + 1) + 1) 0 (sI (newA (((((((sz + 1) + 1) + 1) + 1) + 1) + 1) + 1) 0 (sI (newA ((((((sz + 1) + 1) + 1) + 1) + 1) + 1) 0 (sI (newA (((((sz + 1) + 1) + 1) + 1) + 1) 0 (sI (newA ((((sz + 1) + 1) + 1) + 1) 0 (sI (newA (((sz + 1) + 1) + 1) 0 (sI (newA ((sz + 1) + 1) 0 (sI (newA (sz + 1) 0 (sI (newA sz 0 g) 2500 o ((sz : Nat) : Int))) 2501 o (((sz + 1) : Nat) : Int))) 2502 o ((((sz + 1) + 1) : Nat) : Int))) 2503 o (((((sz + 1) + 1) + 1) : Nat) : Int))) 2504 o ((((((sz + 1) + 1) + 1) + 1) : Nat) : Int))) 2505 o (((((((sz + 1) + 1) + 1) + 1) + 1) : Nat) : Int))) 2506 o ((((((((sz + 1) + 1) + 1) + 1) + 1) + 1) : Nat) : Int))) 2507 o (((((((((sz + 1) + 1) + 1) + 1) + 1) + 1) + 1) : Nat) : Int))) 2508 o ((((((((((sz + 1) + 1) + 1) + 1) + 1) + 1) + 1) + 1) : Nat) : Int))) 2509 o (((((((((((sz + 1) + 1) + 1) + 1) + 1) + 1) + 1) + 1) + 1) : Nat) : Int))) 2510 o ((((((((((((sz + 1) + 1) + 1) + 1) + 1) + 1) + 1) + 1) + 1) + 1) : Nat) : Int))) 2511 o (((((((((((((sz + 1) + 1) + 1) + 1) + 1) + 1) + 1) + 1) + 1) + 1) + 1) : Nat) : Int))) 2512 o ((((((((((((((sz + 1) + 1) + 1) + 1) + 1) + 1) + 1) + 1) + 1) + 1) + 1) + 1) : Nat) : Int)) 2519 o 20) 2520 o 2) 2522 o 30) 2523 o 5)), 0)
def x_init_b215 (N : Nat) (o : Nat) (g : S3) (l1 : Int) : Option ((S3 × Int) ⊕ S3) :=
  if w32 3 ≤ w32 l1 then
    outR (some g)
  else
    (rdR g.1 g.2.2 1707 o 10003).bind fun i221 =>
    (wrA g.2.2 i221 3 l1 (-1)).bind fun g226 =>
    some (.inl ((g.1, g.2.1, g226), (l1 + 1)))
def x_init_b180 (N : Nat) (o : Nat) (l1 : Int) (g : S3) (l2 : Int) : Option ((S3 × Int) ⊕ (S3)) :=
  if w32 20 < w32 l2 then
    some (.inr g)
  else
    (rdR g.1 g.2.2 1704 o 60003).bind fun i187 =>
    (rdQ g.1 g.2.2 i187 3 l1 50021).bind fun i191 =>
    lim (g.2.1 + 1) <|
    (xPlan_init g.2.1 (ku g.1 g.2.1 20) (g.2.1 + 1) (newI 19 g.2.1 g.2.2)).bind fun c197 =>
    dnP 2 g.2.1 c197.1 c197.2.2 <|
    (wrA (dnI 2 g.2.1 c197.2.2) i191 21 l2 ((g.2.1 : Nat) : Int)).bind fun g200 =>
    some (.inl (((ku c197.1 g.2.1 3), c197.2.1, g200), (l2 + 1)))
def x_init_b173 (N : Nat) (o : Nat) (g : S3) (l1 : Int) : Option ((S3 × Int) ⊕ (S3)) :=
  if w32 3 ≤ w32 l1 then
    some (.inr g)
  else
    (loopN (fun s => x_init_b180 N o l1 s.1 s.2) N (g, 0)).bind fun t2 =>
    some (.inl (t2, (l1 + 1)))
def x_init_b146 (N : Nat) (o : Nat) (g : S3) (l1 : Int) : Option ((S3 × Int) ⊕ (S3)) :=
  if w32 20 ≤ w32 l1 then
    some (.inr g)
  else
    (rdR g.1 g.2.2 1703 o 50020).bind fun i153 =>
    lim (g.2.1 + 1) <|
    (xPlan_init g.2.1 (ku g.1 g.2.1 20) (g.2.1 + 1) (newI 19 g.2.1 g.2.2)).bind fun c161 =>
    dnP 2 g.2.1 c161.1 c161.2.2 <|
    (wrA (dnI 2 g.2.1 c161.2.2) i153 20 l1 ((g.2.1 : Nat) : Int)).bind fun g164 =>
    some (.inl (((ku c161.1 g.2.1 3), c161.2.1, g164), (l1 + 1)))
def x_init (N : Nat) (o : Nat) (K : Nat → Nat) (sz : Nat) (g : GS) : Option S3 :=
  lim (sz + 1) <|
  lim ((sz + 1) + 1) <|
  (xLaw_init (sz + 1) (ku (ku K sz 20600) (sz + 1) 2) ((sz + 1) + 1) (newI 1 (sz + 1) (sI (newA sz 0 g) 1700 o ((sz : Nat) : Int)))).bind fun c18 =>
  lim (c18.2.1 + 1) <|
  (xPlan_init c18.2.1 (ku c18.1 c18.2.1 20) (c18.2.1 + 1) (newI 19 c18.2.1 (sI c18.2.2 1701 o (((sz + 1) : Nat) : Int)))).bind fun c29 =>
  dnP 2 c18.2.1 c29.1 c29.2.2 <|
  lim (c29.2.1 + 1) <|
  lim ((c29.2.1 + 1) + 1 + 3) <|
  lim (((c29.2.1 + 1) + 1 + 3) + 1) <|
  lim ((((c29.2.1 + 1) + 1 + 3) + 1) + 1) <|
  lim (((((c29.2.1 + 1) + 1 + 3) + 1) + 1) + 1) <|
  lim ((((((c29.2.1 + 1) + 1 + 3) + 1) + 1) + 1) + 1) <|
  (rdR (ku (ku (ku (ku (kuM (ku (ku c29.1 c18.2.1 3) c29.2.1 50020) (c29.2.1 + 1) 3 60003 50021) ((c29.2.1 + 1) + 1 + 3) 10003) (((c29.2.1 + 1) + 1 + 3) + 1) 10003) ((((c29.2.1 + 1) + 1 + 3) + 1) + 1) 10003) (((((c29.2.1 + 1) + 1 + 3) + 1) + 1) + 1) 21) (newI 20 (((((c29.2.1 + 1) + 1 + 3) + 1) + 1) + 1) (sI (newA ((((c29.2.1 + 1) + 1 + 3) + 1) + 1) 0 (sI (newA (((c29.2.1 + 1) + 1 + 3) + 1) 0 (sI (newA ((c29.2.1 + 1) + 1 + 3) 0 (sI (newM (c29.2.1 + 1) 3 (-1) (sI (newA c29.2.1 (-1) (sI (dnI 2 c18.2.1 c29.2.2) 1702 o ((c18.2.1 : Nat) : Int))) 1703 o ((c29.2.1 : Nat) : Int))) 1704 o (((c29.2.1 + 1) : Nat) : Int))) 1705 o ((((c29.2.1 + 1) + 1 + 3) : Nat) : Int))) 1706 o (((((c29.2.1 + 1) + 1 + 3) + 1) : Nat) : Int))) 1707 o ((((((c29.2.1 + 1) + 1 + 3) + 1) + 1) : Nat) : Int))) 1701 o 2).bind fun i82 =>
  (xWatch_init (((((c29.2.1 + 1) + 1 + 3) + 1) + 1) + 1) i82 (ku (ku (ku (ku (kuM (ku (ku c29.1 c18.2.1 3) c29.2.1 50020) (c29.2.1 + 1) 3 60003 50021) ((c29.2.1 + 1) + 1 + 3) 10003) (((c29.2.1 + 1) + 1 + 3) + 1) 10003) ((((c29.2.1 + 1) + 1 + 3) + 1) + 1) 10003) (((((c29.2.1 + 1) + 1 + 3) + 1) + 1) + 1) 21) ((((((c29.2.1 + 1) + 1 + 3) + 1) + 1) + 1) + 1) (newI 20 (((((c29.2.1 + 1) + 1 + 3) + 1) + 1) + 1) (sI (newA ((((c29.2.1 + 1) + 1 + 3) + 1) + 1) 0 (sI (newA (((c29.2.1 + 1) + 1 + 3) + 1) 0 (sI (newA ((c29.2.1 + 1) + 1 + 3) 0 (sI (newM (c29.2.1 + 1) 3 (-1) (sI (newA c29.2.1 (-1) (sI (dnI 2 c18.2.1 c29.2.2) 1702 o ((c18.2.1 : Nat) : Int))) 1703 o ((c29.2.1 : Nat) : Int))) 1704 o (((c29.2.1 + 1) : Nat) : Int))) 1705 o ((((c29.2.1 + 1) + 1 + 3) : Nat) : Int))) 1706 o (((((c29.2.1 + 1) + 1 + 3) + 1) : Nat) : Int))) 1707 o ((((((c29.2.1 + 1) + 1 + 3) + 1) + 1) : Nat) : Int)))).bind fun c85 =>
  dnP 3 (((((c29.2.1 + 1) + 1 + 3) + 1) + 1) + 1) c85.1 c85.2.2 <|
  lim (c85.2.1 + 1) <|
  (rdR (ku (ku c85.1 (((((c29.2.1 + 1) + 1 + 3) + 1) + 1) + 1) 4) c85.2.1 23) (newI 22 c85.2.1 (sI (dnI 3 (((((c29.2.1 + 1) + 1 + 3) + 1) + 1) + 1) c85.2.2) 1708 o (((((((c29.2.1 + 1) + 1 + 3) + 1) + 1) + 1) : Nat) : Int))) 1701 o 2).bind fun i97 =>
  (xSoonest_init N c85.2.1 i97 (ku (ku c85.1 (((((c29.2.1 + 1) + 1 + 3) + 1) + 1) + 1) 4) c85.2.1 23) (c85.2.1 + 1) (newI 22 c85.2.1 (sI (dnI 3 (((((c29.2.1 + 1) + 1 + 3) + 1) + 1) + 1) c85.2.2) 1708 o (((((((c29.2.1 + 1) + 1 + 3) + 1) + 1) + 1) : Nat) : Int)))).bind fun c100 =>
  dnP 5 c85.2.1 c100.1 c100.2.2 <|
  lim (c100.2.1 + 1) <|
  (xRing_init c100.2.1 (ku (ku c100.1 c85.2.1 6) c100.2.1 24) (c100.2.1 + 1) (newI 23 c100.2.1 (sI (dnI 5 c85.2.1 c100.2.2) 1709 o ((c85.2.1 : Nat) : Int)))).bind fun c111 =>
  dnP 6 c100.2.1 c111.1 c111.2.2 <|
  lim (c111.2.1 + 1) <|
  (xMiles_init c111.2.1 (ku (ku c111.1 c100.2.1 7) c111.2.1 25) (c111.2.1 + 1) (newI 24 c111.2.1 (sI (dnI 6 c100.2.1 c111.2.2) 1710 o ((c100.2.1 : Nat) : Int)))).bind fun c122 =>
  dnP 7 c111.2.1 c122.1 c122.2.2 <|
  lim (c122.2.1 + 1) <|
  (xRoad_init N c122.2.1 (ku (ku c122.1 c111.2.1 8) c122.2.1 26) (c122.2.1 + 1) (newI 25 c122.2.1 (sI (dnI 7 c111.2.1 c122.2.2) 1711 o ((c111.2.1 : Nat) : Int)))).bind fun c133 =>
  dnP 8 c122.2.1 c133.1 c133.2.2 <|
  (loopN (fun s => x_init_b146 N o s.1 s.2) N (((ku c133.1 c122.2.1 9), c133.2.1, (sI (sI (dnI 8 c122.2.1 c133.2.2) 1712 o ((c122.2.1 : Nat) : Int)) 1714 o (-1))), 0)).bind fun t3 =>
  (loopN (fun s => x_init_b173 N o s.1 s.2) N (t3, 0)).bind fun t4 =>
  loopN (fun s => x_init_b215 N o s.1 s.2) N (t4, 0)
def xReader_init (o : Nat) (l1 : Nat) (n1 : Nat) (K : Nat → Nat) (sz : Nat) (g : GS) (l2 : Int) : Option S3 :=
  some (K, sz, (sI (sI g 2800 o ((l1 : Nat) : Int)) 2801 o l2))
def xRoadReader_init (N : Nat) (o : Nat) (l1 : Nat) (K : Nat → Nat) (sz : Nat) (g : GS) : Option S3 :=
  lim (sz + 1) <|
  lim ((sz + 1) + 1) <|
  (xRoad_init N (sz + 1) (ku (ku K sz 200) (sz + 1) 26) ((sz + 1) + 1) (newI 25 (sz + 1) (sI g 2700 o ((sz : Nat) : Int)))).bind fun c84 =>
  dnP 8 (sz + 1) c84.1 c84.2.2 <|
  some ((ku c84.1 (sz + 1) 9), c84.2.1, (sI (sI (dnI 8 (sz + 1) c84.2.2) 2702 o (((sz + 1) : Nat) : Int)) 2701 o ((l1 : Nat) : Int)))
def xLawReader_init (o : Nat) (l1 : Nat) (K : Nat → Nat) (sz : Nat) (g : GS) : Option S3 :=
  lim (sz + 1) <|
  some ((ku K sz 201), (sz + 1), (sI (sI g 3000 o ((sz : Nat) : Int)) 3001 o ((l1 : Nat) : Int)))
def xTwo_init (o : Nat) (l2 : Nat) (l3 : Nat) (K : Nat → Nat) (sz : Nat) (g : GS) (l1 : Int) : Option S3 :=
  chK l1 <|
  some (K, sz, (sI (sI (sI g 1400 o l1) 1401 o ((l2 : Nat) : Int)) 1402 o ((l3 : Nat) : Int)))
def xAmount_init (o : Nat) (K : Nat → Nat) (sz : Nat) (g : GS) (l1 : Int) : Option S3 :=
  some (K, sz, (sI g 1500 o l1))
def xKnown_init (o : Nat) (K : Nat → Nat) (sz : Nat) (g : GS) (l1 : Int) : Option S3 :=
  some (K, sz, (sI g 1600 o l1))
def xLawReader_value_F_j26 (N : Nat) (R_sum : (Nat → Nat) → Nat → GS → Option ((Nat × S3) ⊕ (Nat × S3))) (o : Nat) (g : S3) (l1 : Int) : Option ((Nat × S3) ⊕ (Nat × S3)) :=
  (xReader_opens N (o + 1) g.2.1 g.2.2).bind fun c30 =>
  thT c30 (fun (e30_, s30_) =>
      lim (g.2.1 + 1) <|
      some (.inl (e30_, (kE e30_ g.1 g.2.1, (g.2.1 + 1), s30_)))) fun y30 =>
  (xReader_skipsWord N (o + 1) y30).bind fun c37 =>
  (xReader_sign N (o + 1) g.2.1 c37 91).bind fun c46 =>
  thT c46 (fun (e46_, s46_) =>
      lim (g.2.1 + 1) <|
      some (.inl (e46_, (kE e46_ g.1 g.2.1, (g.2.1 + 1), s46_)))) fun y46 =>
  (R_sum g.1 g.2.1 y46).bind fun c50 =>
  thT c50 (fun (e50_, s50_) =>
      some (.inl (e50_, s50_))) fun y50 =>
  (xReader_sign N (o + 1) y50.2.2.1 y50.2.2.2 44).bind fun c60 =>
  thT c60 (fun (e60_, s60_) =>
      lim (y50.2.2.1 + 1) <|
      some (.inl (e60_, (kE e60_ y50.2.1 y50.2.2.1, (y50.2.2.1 + 1), s60_)))) fun y60 =>
  (R_sum y50.2.1 y50.2.2.1 y60).bind fun c64 =>
  thT c64 (fun (e64_, s64_) =>
      some (.inl (e64_, s64_))) fun y64 =>
  (xReader_sign N (o + 1) y64.2.2.1 y64.2.2.2 93).bind fun c74 =>
  thT c74 (fun (e74_, s74_) =>
      lim (y64.2.2.1 + 1) <|
      some (.inl (e74_, (kE e74_ y64.2.1 y64.2.2.1, (y64.2.2.1 + 1), s74_)))) fun y74 =>
  (xReader_closes (o + 1) y74).bind fun c81 =>
  lim (y64.2.2.1 + 1) <|
  if w32 l1 = 0 then
    (xTwo_init y64.2.2.1 y50.1 y64.1 (ku y64.2.1 y64.2.2.1 15) (y64.2.2.1 + 1) (newI 14 y64.2.2.1 c81) 93).bind fun c101 =>
    some (.inr (y64.2.2.1, c101))
  else
    (xTwo_init y64.2.2.1 y50.1 y64.1 (ku y64.2.1 y64.2.2.1 15) (y64.2.2.1 + 1) (newI 14 y64.2.2.1 c81) 91).bind fun c101_1 =>
    some (.inr (y64.2.2.1, c101_1))
def xLawReader_value_F (N : Nat) (R_sum : (Nat → Nat) → Nat → GS → Option ((Nat × S3) ⊕ (Nat × S3))) (o : Nat) (K : Nat → Nat) (sz : Nat) (g : GS) : Option ((Nat × S3) ⊕ (Nat × S3)) :=
  (xReader_isWord N (o + 1) (stx 6) g).bind fun c6 =>
  if ¬ w32 c6.1 = 0 then
    xLawReader_value_F_j26 N R_sum o (K, sz, c6.2) c6.1
  else
    (xReader_isWord N (o + 1) (stx 7) c6.2).bind fun c20 =>
    if w32 c20.1 = 0 then
      (xReader_now N (o + 1) c20.2).bind fun c109 =>
      if ¬ w32 c109.1 = w32 40 then
        (xReader_which N K (o + 1) (o + 2) 1 c109.2).bind fun c164 =>
        if ¬ w32 c164.1 = w32 (-1) then
          (xReader_skipsWord N (o + 1) c164.2).bind fun c196 =>
          lim (sz + 1) <|
          (xKnown_init sz (ku K sz 17) (sz + 1) (newI 16 sz c196) c164.1).bind fun c204 =>
          some (.inr (sz, c204))
        else
          lim (sz + 1) <|
          (xReader_number N (o + 1) (sz + 1) (newI 15 sz c164.2) 0 999).bind fun c185 =>
          thT c185 (fun (e185_, s185_) =>
              lim ((sz + 1) + 1) <|
              some (.inl (e185_, (kE e185_ (ku K sz 16) (sz + 1), ((sz + 1) + 1), s185_)))) fun y185 =>
          (xAmount_init sz (ku K sz 16) (sz + 1) y185.2 y185.1).bind fun c188 =>
          some (.inr (sz, c188))
      else
        (xReader_opens N (o + 1) sz c109.2).bind fun c121 =>
        thT c121 (fun (e121_, s121_) =>
            lim (sz + 1) <|
            some (.inl (e121_, (kE e121_ K sz, (sz + 1), s121_)))) fun y121 =>
        (xReader_sign N (o + 1) sz y121 40).bind fun c130 =>
        thT c130 (fun (e130_, s130_) =>
            lim (sz + 1) <|
            some (.inl (e130_, (kE e130_ K sz, (sz + 1), s130_)))) fun y130 =>
        (R_sum K sz y130).bind fun c134 =>
        thT c134 (fun (e134_, s134_) =>
            some (.inl (e134_, s134_))) fun y134 =>
        (xReader_sign N (o + 1) y134.2.2.1 y134.2.2.2 41).bind fun c144 =>
        thT c144 (fun (e144_, s144_) =>
            lim (y134.2.2.1 + 1) <|
            some (.inl (e144_, (kE e144_ y134.2.1 y134.2.2.1, (y134.2.2.1 + 1), s144_)))) fun y144 =>
        (xReader_closes (o + 1) y144).bind fun c151 =>
        some (.inr (y134.1, (y134.2.1, y134.2.2.1, c151)))
    else
      xLawReader_value_F_j26 N R_sum o (K, sz, c20.2) c6.1
def xLawReader_product_F_b5 (N : Nat) (R_value : (Nat → Nat) → Nat → GS → Option ((Nat × S3) ⊕ (Nat × S3))) (o : Nat) (g : S3) (l1 : Nat) : Option ((S3 × Nat) ⊕ ((Nat × S3) ⊕ (Nat × S3))) :=
  (xReader_takesSign N (o + 1) g.2.2 42).bind fun c11 =>
  if w32 c11.1 = 0 then
    (xReader_takesSign N (o + 1) c11.2 47).bind fun c41 =>
    if w32 c41.1 = 0 then
      outR (some (.inr (l1, (g.1, g.2.1, c41.2))))
    else
      lim (g.2.1 + 1) <|
      (R_value (ku g.1 g.2.1 15) (g.2.1 + 1) (newI 14 g.2.1 c41.2)).bind fun c55 =>
      thT c55 (fun (e55_, s55_) =>
          outR (some (.inl (e55_, s55_)))) fun y55 =>
      (xTwo_init g.2.1 l1 y55.1 y55.2.1 y55.2.2.1 y55.2.2.2 47).bind fun c58 =>
      some (.inl (c58, g.2.1))
  else
    lim (g.2.1 + 1) <|
    (R_value (ku g.1 g.2.1 15) (g.2.1 + 1) (newI 14 g.2.1 c11.2)).bind fun c25 =>
    thT c25 (fun (e25_, s25_) =>
        outR (some (.inl (e25_, s25_)))) fun y25 =>
    (xTwo_init g.2.1 l1 y25.1 y25.2.1 y25.2.2.1 y25.2.2.2 42).bind fun c28 =>
    some (.inl (c28, g.2.1))
def xLawReader_product_F (N : Nat) (R_value : (Nat → Nat) → Nat → GS → Option ((Nat × S3) ⊕ (Nat × S3))) (o : Nat) (K : Nat → Nat) (sz : Nat) (g : GS) : Option ((Nat × S3) ⊕ (Nat × S3)) :=
  (R_value K sz g).bind fun c1 =>
  thT c1 (fun (e1_, s1_) =>
      some (.inl (e1_, s1_))) fun y1 =>
  loopN (fun s => xLawReader_product_F_b5 N R_value o s.1 s.2) N (y1.2, y1.1)
def xLawReader_sum_F_b5 (N : Nat) (R_product : (Nat → Nat) → Nat → GS → Option ((Nat × S3) ⊕ (Nat × S3))) (o : Nat) (g : S3) (l1 : Nat) : Option ((S3 × Nat) ⊕ ((Nat × S3) ⊕ (Nat × S3))) :=
  (xReader_takesSign N (o + 1) g.2.2 43).bind fun c11 =>
  if w32 c11.1 = 0 then
    (xReader_takesSign N (o + 1) c11.2 45).bind fun c41 =>
    if w32 c41.1 = 0 then
      outR (some (.inr (l1, (g.1, g.2.1, c41.2))))
    else
      lim (g.2.1 + 1) <|
      (R_product (ku g.1 g.2.1 15) (g.2.1 + 1) (newI 14 g.2.1 c41.2)).bind fun c55 =>
      thT c55 (fun (e55_, s55_) =>
          outR (some (.inl (e55_, s55_)))) fun y55 =>
      (xTwo_init g.2.1 l1 y55.1 y55.2.1 y55.2.2.1 y55.2.2.2 45).bind fun c58 =>
      some (.inl (c58, g.2.1))
  else
    lim (g.2.1 + 1) <|
    (R_product (ku g.1 g.2.1 15) (g.2.1 + 1) (newI 14 g.2.1 c11.2)).bind fun c25 =>
    thT c25 (fun (e25_, s25_) =>
        outR (some (.inl (e25_, s25_)))) fun y25 =>
    (xTwo_init g.2.1 l1 y25.1 y25.2.1 y25.2.2.1 y25.2.2.2 43).bind fun c28 =>
    some (.inl (c28, g.2.1))
def xLawReader_sum_F (N : Nat) (R_product : (Nat → Nat) → Nat → GS → Option ((Nat × S3) ⊕ (Nat × S3))) (o : Nat) (K : Nat → Nat) (sz : Nat) (g : GS) : Option ((Nat × S3) ⊕ (Nat × S3)) :=
  (R_product K sz g).bind fun c1 =>
  thT c1 (fun (e1_, s1_) =>
      some (.inl (e1_, s1_))) fun y1 =>
  loopN (fun s => xLawReader_sum_F_b5 N R_product o s.1 s.2) N (y1.2, y1.1)
def xLawReader_sum_R (N : Nat) (o : Nat) : Nat → (Nat → Nat) → Nat → GS → Option ((Nat × S3) ⊕ (Nat × S3))
  | 0 => fun _ _ _ => none
  | d + 1 => xLawReader_sum_F N (xLawReader_product_F N (xLawReader_value_F N (xLawReader_sum_R N o d) o) o) o
def xLawReader_sum (N : Nat) (o : Nat) (K : Nat → Nat) (sz : Nat) (g : GS) : Option ((Nat × S3) ⊕ (Nat × S3)) := xLawReader_sum_R N o 10 K sz g
def x_feed_b45 (N : Nat) (l6 : Nat) (g : S3) (l7 : Int) : Option ((S3 × Int) ⊕ (Int × S3)) :=
  ckK g.1 l6 10005 <|
  if w32 20 ≤ w32 l7 then
    outR (some ((gI g.2.2 13 0), g))
  else
    (rdA (sI g.2.2 13 0 ((gI g.2.2 13 0) + 1)) l6 5 (i_div l7 4)).bind fun v73 =>
    (wrA (sI g.2.2 13 0 ((gI g.2.2 13 0) + 1)) 1 600 (gI g.2.2 13 0) (i_b (i_b (i_shr v73 (24 - (8 * (i_rem l7 4))))))).bind fun g86 =>
    some (.inl ((g.1, g.2.1, g86), (l7 + 1)))
def x_feed (N : Nat) (K : Nat → Nat) (sz : Nat) (g : GS) (l1 : Int) (l2 : Int) (l3 : Int) (l4 : Int) (l5 : Int) : Option (Int × S3) :=
  if w32 ((gI g 13 0) + 20) ≤ w32 600 then
    lim (sz + 1) <|
    (wrA (newA sz 0 g) sz 5 0 l1).bind fun g21 =>
    (wrA g21 sz 5 1 l2).bind fun g25 =>
    (wrA g25 sz 5 2 l3).bind fun g29 =>
    (wrA g29 sz 5 3 l4).bind fun g34 =>
    (wrA g34 sz 5 4 l5).bind fun g39 =>
    loopN (fun s => x_feed_b45 N sz s.1 s.2) N (((ku K sz 10005), (sz + 1), g39), 0)
  else
    some ((-1), (K, sz, g))
def x_reader (K : Nat → Nat) (sz : Nat) (g : GS) (l1 : Int) : Option (Nat × S3) :=
  lim (sz + 1) <|
  (xReader_init sz 1 600 (ku K sz 29) (sz + 1) (newI 28 sz (sI (sI g 13 0 0) 14 0 (-1))) l1).bind fun c19 =>
  dnP 11 sz c19.1 c19.2.2 <|
  some (sz, ((ku c19.1 sz 12), c19.2.1, (dnI 11 sz c19.2.2)))
def x_faulty (l1 : Nat) (g : GS) : Option (Int × GS) :=
  some (((gI (sI g 14 0 (gI g 1207 l1)) 1206 l1) - 10), (sI g 14 0 (gI g 1207 l1)))
def x_road_b62 (N : Nat) (g : S3) (l2 : Int) : Option ((S3 × Int) ⊕ (S3)) :=
  if w32 3 ≤ w32 l2 then
    some (.inr g)
  else
    (wrA g.2.2 13 3 l2 (-1)).bind fun g73 =>
    some (.inl ((g.1, g.2.1, g73), (l2 + 1)))
def x_road (N : Nat) (K : Nat → Nat) (sz : Nat) (g : GS) (l1 : Int) : Option ((Nat × S3) ⊕ (Int × S3)) :=
  (x_within g l1 0 (gI g 13 0)).bind fun c7 =>
  thT c7 (fun (e7_, s7_) =>
      lim (sz + 1) <|
      some (.inl (e7_, (kE e7_ K sz, (sz + 1), s7_)))) fun y7 =>
  lim (sz + 1) <|
  (x_reader (ku K sz 28) (sz + 1) (newI 27 sz y7) l1).bind fun c17 =>
  ckK c17.2.1 c17.1 12 <|
  (xRoadReader_init N sz c17.1 c17.2.1 c17.2.2.1 c17.2.2.2).bind fun c20 =>
  dnP 10 sz c20.1 c20.2.2 <|
  (xRoadReader_reads N (ku c20.1 sz 11) sz c20.2.1 (dnI 10 sz c20.2.2)).bind fun c23 =>
  thT c23 (fun (e23_, s23_) =>
      lim (c20.2.1 + 1) <|
      if e23_ = 3 then
        ckK (kE 3 (ku c20.1 sz 11) c20.2.1) c20.2.1 13 <|
        (x_faulty c20.2.1 s23_).bind fun c35 =>
        some (.inr (c35.1, ((kE 3 (ku c20.1 sz 11) c20.2.1), (c20.2.1 + 1), c35.2)))
      else
        none) fun y23 =>
  (loopN (fun s => x_road_b62 N s.1 s.2) N (((ku c20.1 sz 11), c20.2.1, (sI (sI (sI (sI y23 12 0 (((sz + 3) : Nat) : Int)) 202 3 0) 100 2 (-1)) 15 0 0)), 0)).bind fun t1 =>
  (rdR t1.1 (sI (sI t1.2.2 16 0 0) 17 0 0) 12 0 9).bind fun i91 =>
  some (.inr ((gI (sI (sI t1.2.2 16 0 0) 17 0 0) 814 i91), (t1.1, t1.2.1, (sI (sI t1.2.2 16 0 0) 17 0 0))))
def xLawReader_reads (N : Nat) (o : Nat) (K : Nat → Nat) (sz : Nat) (g : GS) : Option ((Nat × S3) ⊕ (Nat × S3)) :=
  (xLawReader_sum N o K sz g).bind fun c1 =>
  thT c1 (fun (e1_, s1_) =>
      some (.inl (e1_, s1_))) fun y1 =>
  (xReader_ends N (o + 1) y1.2.2.1 y1.2.2.2).bind fun c9 =>
  thT c9 (fun (e9_, s9_) =>
      lim (y1.2.2.1 + 1) <|
      some (.inl (e9_, (kE e9_ y1.2.1 y1.2.2.1, (y1.2.2.1 + 1), s9_)))) fun y9 =>
  some (.inr (y1.1, (y1.2.1, y1.2.2.1, y9)))
def x_law (N : Nat) (K : Nat → Nat) (sz : Nat) (g : GS) (l1 : Int) : Option ((Nat × S3) ⊕ (Int × S3)) :=
  (x_within g l1 0 (imin (gI g 13 0) 150)).bind fun c13 =>
  thT c13 (fun (e13_, s13_) =>
      lim (sz + 1) <|
      some (.inl (e13_, (kE e13_ K sz, (sz + 1), s13_)))) fun y13 =>
  lim (sz + 1) <|
  (x_reader (ku K sz 31) (sz + 1) (newI 30 sz y13) l1).bind fun c26 =>
  ckK c26.2.1 c26.1 12 <|
  (xLawReader_init sz c26.1 c26.2.1 c26.2.2.1 c26.2.2.2).bind fun c29 =>
  dnP 13 sz c29.1 c29.2.2 <|
  (xLawReader_reads N sz (ku c29.1 sz 14) c29.2.1 (dnI 13 sz c29.2.2)).bind fun c32 =>
  thT c32 (fun (e32_, s32_) =>
      if e32_ = 3 then
        ckK s32_.1 (s32_.2.1 - 1) 13 <|
        (x_faulty (s32_.2.1 - 1) s32_.2.2).bind fun c44 =>
        some (.inr (c44.1, (s32_.1, s32_.2.1, c44.2)))
      else
        none) fun y32 =>
  some (.inr (1, (y32.2.1, y32.2.2.1, (sI y32.2.2.2 100 2 ((y32.1 : Nat) : Int)))))
def x_plan (N : Nat) (K : Nat → Nat) (sz : Nat) (g : GS) (l1 : Int) : Option ((Nat × S3) ⊕ (Int × S3)) :=
  (x_within g l1 0 (imin (gI g 13 0) 150)).bind fun c13 =>
  thT c13 (fun (e13_, s13_) =>
      lim (sz + 1) <|
      some (.inl (e13_, (kE e13_ K sz, (sz + 1), s13_)))) fun y13 =>
  lim (sz + 1) <|
  (xPlan_init sz (ku K sz 20) (sz + 1) (newI 19 sz y13)).bind fun c20 =>
  dnP 2 sz c20.1 c20.2.2 <|
  (x_reader (ku c20.1 sz 3) c20.2.1 (dnI 2 sz c20.2.2) l1).bind fun c27 =>
  ckK c27.2.1 c27.1 12 <|
  (rdR c27.2.1 c27.2.2.2 12 0 9).bind fun i31 =>
  (xPlan_reads N sz c27.1 i31 c27.2.2.1 c27.2.2.2).bind fun c34 =>
  thT c34 (fun (e34_, s34_) =>
      lim (c27.2.2.1 + 1) <|
      if e34_ = 3 then
        ckK (kE 3 c27.2.1 c27.2.2.1) c27.2.2.1 13 <|
        (x_faulty c27.2.2.1 s34_).bind fun c43 =>
        some (.inr (c43.1, ((kE 3 c27.2.1 c27.2.2.1), (c27.2.2.1 + 1), c43.2)))
      else
        none) fun y34 =>
  (xPlan_as 3 sz y34).bind fun c52 =>
  some (.inr ((gI (sI c52 16 0 0) 202 3), (c27.2.1, c27.2.2.1, (sI c52 16 0 0))))
def x_book_b40 (N : Nat) (l2 : Nat) (l4 : Nat) (g : S3) (l3 : Int) : Option ((S3 × Int) ⊕ ((Nat × S3) ⊕ (Int × S3))) :=
  ckK g.1 l2 10003 <|
  ckK g.1 l4 12 <|
  (xReader_now N l4 g.2.2).bind fun c42 =>
  if w32 c42.1 = w32 (-1) then
    outR (some (.inr (l3, (g.1, g.2.1, (cpA (sI c42.2 15 0 l3) l2 13 3)))))
  else
    (xReader_place N l4 c42.2).bind fun c51 =>
    (xReader_number N l4 g.2.1 c51.2 0 2).bind fun c60 =>
    thT c60 (fun (e60_, s60_) =>
        lim (g.2.1 + 1) <|
        if e60_ = 3 then
          ckK (kE 3 g.1 g.2.1) g.2.1 13 <|
          outR ((x_faulty g.2.1 s60_).bind fun c120 =>
          some (.inr (c120.1, ((kE 3 g.1 g.2.1), (g.2.1 + 1), c120.2))))
        else
          none) fun y60 =>
    (rdA y60.2 l2 3 y60.1).bind fun v68 =>
    if w32 v68 = w32 (-1) then
      (xReader_number N l4 g.2.1 y60.2 0 1).bind fun c88 =>
      thT c88 (fun (e88_, s88_) =>
          lim (g.2.1 + 1) <|
          if e88_ = 3 then
            ckK (kE 3 g.1 g.2.1) g.2.1 13 <|
            outR ((x_faulty g.2.1 s88_).bind fun c120_1 =>
            some (.inr (c120_1.1, ((kE 3 g.1 g.2.1), (g.2.1 + 1), c120_1.2))))
          else
            none) fun y88 =>
      (xReader_sign N l4 g.2.1 y88.2 59).bind fun c97 =>
      thT c97 (fun (e97_, s97_) =>
          lim (g.2.1 + 1) <|
          if e97_ = 3 then
            ckK (kE 3 g.1 g.2.1) g.2.1 13 <|
            outR ((x_faulty g.2.1 s97_).bind fun c120_2 =>
            some (.inr (c120_2.1, ((kE 3 g.1 g.2.1), (g.2.1 + 1), c120_2.2))))
          else
            none) fun y97 =>
      (wrA y97 l2 3 y60.1 y88.1).bind fun g105 =>
      some (.inl ((g.1, g.2.1, g105), (l3 + 1)))
    else
      outR (lim (g.2.1 + 1) <|
      (x_faulty g.2.1 (wrI g.2.1 2 c51.1 (newI 12 g.2.1 y60.2))).bind fun c120_3 =>
      some (.inr (c120_3.1, ((ku g.1 g.2.1 13), (g.2.1 + 1), c120_3.2))))
def x_book (N : Nat) (K : Nat → Nat) (sz : Nat) (g : GS) (l1 : Int) : Option ((Nat × S3) ⊕ (Int × S3)) :=
  (x_within g l1 0 (imin (gI g 13 0) 40)).bind fun c12 =>
  thT c12 (fun (e12_, s12_) =>
      lim (sz + 1) <|
      some (.inl (e12_, (kE e12_ K sz, (sz + 1), s12_)))) fun y12 =>
  lim (sz + 1) <|
  (wrA (newA sz 0 y12) sz 3 0 (-1)).bind fun g21 =>
  (wrA g21 sz 3 1 (-1)).bind fun g25 =>
  (wrA g25 sz 3 2 (-1)).bind fun g29 =>
  (x_reader (ku K sz 10003) (sz + 1) g29 l1).bind fun c35 =>
  ckK c35.2.1 c35.1 12 <|
  loopN (fun s => x_book_b40 N sz c35.1 s.1 s.2) N (c35.2, 0)
def x_would (K : Nat → Nat) (sz : Nat) (g : GS) (l1 : Int) (l2 : Int) (l3 : Int) (l4 : Int) (l5 : Int) (l6 : Int) : Option ((Nat × S3) ⊕ (Int × S3)) :=
  (x_within g l1 1 30).bind fun c5 =>
  thT c5 (fun (e5_, s5_) =>
      lim (sz + 1) <|
      some (.inl (e5_, (kE e5_ K sz, (sz + 1), s5_)))) fun y5 =>
  (x_within y5 l2 1 2).bind fun c12 =>
  thT c12 (fun (e12_, s12_) =>
      lim (sz + 1) <|
      some (.inl (e12_, (kE e12_ K sz, (sz + 1), s12_)))) fun y12 =>
  (x_within y12 l3 0 18).bind fun c20 =>
  thT c20 (fun (e20_, s20_) =>
      lim (sz + 1) <|
      some (.inl (e20_, (kE e20_ K sz, (sz + 1), s20_)))) fun y20 =>
  (x_within y20 l4 0 1).bind fun c28 =>
  thT c28 (fun (e28_, s28_) =>
      lim (sz + 1) <|
      some (.inl (e28_, (kE e28_ K sz, (sz + 1), s28_)))) fun y28 =>
  (x_within y28 l5 0 240).bind fun c38 =>
  thT c38 (fun (e38_, s38_) =>
      lim (sz + 1) <|
      some (.inl (e38_, (kE e38_ K sz, (sz + 1), s38_)))) fun y38 =>
  (x_within y38 l6 0 1).bind fun c46 =>
  thT c46 (fun (e46_, s46_) =>
      lim (sz + 1) <|
      some (.inl (e46_, (kE e46_ K sz, (sz + 1), s46_)))) fun y46 =>
  lim (sz + 1) <|
  (xSight_init sz (ku K sz 5) (sz + 1) (newI 4 sz y46)).bind fun c53 =>
  (xLaw_lasts c53.1 sz (sI (sI (sI (sI (sI (sI c53.2.2 400 sz l1) 401 sz l2) 402 sz l3) 403 sz l4) 404 sz l5) 405 sz l6)).bind fun c103 =>
  some (.inr (c103, (c53.1, c53.2.1, (sI (sI (sI (sI (sI (sI c53.2.2 400 sz l1) 401 sz l2) 402 sz l3) 403 sz l4) 404 sz l5) 405 sz l6))))
