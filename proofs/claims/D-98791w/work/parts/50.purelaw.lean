/-! RainWheelLaw: its helpers (printed by gen/xlaw.py) -/
def xLaw0_road (N : Nat) (l2 : Nat) (K : Nat → Nat) (sz : Nat) (g : GS) (l1 : Int) : Option (Int × S3) :=
  (x_road N K sz g l1).bind fun c4 =>
  thT c4 (fun (e4_, s4_) =>
      if e4_ = 1 then
        some (1, s4_)
      else
        none) fun y4 =>
  (wrA y4.2.2.2 l2 1 0 (w32 y4.1)).bind fun g8 =>
  some (0, (y4.2.1, y4.2.2.1, g8))
def xLaw0_law (N : Nat) (l2 : Nat) (K : Nat → Nat) (sz : Nat) (g : GS) (l1 : Int) : Option (Int × S3) :=
  (x_law N K sz g l1).bind fun c4 =>
  thT c4 (fun (e4_, s4_) =>
      if e4_ = 1 then
        some (1, s4_)
      else
        none) fun y4 =>
  (wrA y4.2.2.2 l2 1 0 (w32 y4.1)).bind fun g8 =>
  some (0, (y4.2.1, y4.2.2.1, g8))
def xLaw0_plan (N : Nat) (l2 : Nat) (K : Nat → Nat) (sz : Nat) (g : GS) (l1 : Int) : Option (Int × S3) :=
  (x_plan N K sz g l1).bind fun c4 =>
  thT c4 (fun (e4_, s4_) =>
      if e4_ = 1 then
        some (1, s4_)
      else
        none) fun y4 =>
  (wrA y4.2.2.2 l2 1 0 (w32 y4.1)).bind fun g8 =>
  some (0, (y4.2.1, y4.2.2.1, g8))
def xLaw0_book (N : Nat) (l2 : Nat) (K : Nat → Nat) (sz : Nat) (g : GS) (l1 : Int) : Option (Int × S3) :=
  (x_book N K sz g l1).bind fun c4 =>
  thT c4 (fun (e4_, s4_) =>
      if e4_ = 1 then
        some (1, s4_)
      else
        none) fun y4 =>
  (wrA y4.2.2.2 l2 1 0 (w32 y4.1)).bind fun g8 =>
  some (0, (y4.2.1, y4.2.2.1, g8))
def xLaw0_told (l2 : Nat) (K : Nat → Nat) (sz : Nat) (g : GS) (l1 : Int) : Option (Int × S3) :=
  (x_told K g l1).bind fun c4 =>
  thT c4 (fun (e4_, s4_) =>
      lim (sz + 1) <|
      if e4_ = 1 then
        some (1, ((kE 1 K sz), (sz + 1), s4_))
      else
        none) fun y4 =>
  (wrA y4.2 l2 1 0 (w32 y4.1)).bind fun g8 =>
  some (0, (K, sz, g8))
def xLaw0_deed (l3 : Nat) (K : Nat → Nat) (sz : Nat) (g : GS) (l1 : Int) (l2 : Int) : Option (Int × S3) :=
  (x_deed K g l1 l2).bind fun c5 =>
  thT c5 (fun (e5_, s5_) =>
      lim (sz + 1) <|
      if e5_ = 0 then
        some (1, ((kE 0 K sz), (sz + 1), s5_))
      else
        if e5_ = 1 then
          some (2, ((kE 1 K sz), (sz + 1), s5_))
        else
          none) fun y5 =>
  (wrA y5.2 l3 1 0 (w32 y5.1)).bind fun g9 =>
  some (0, (K, sz, g9))
def xLaw0_strong (l2 : Nat) (K : Nat → Nat) (sz : Nat) (g : GS) (l1 : Int) : Option (Int × S3) :=
  (x_strong K g l1).bind fun c4 =>
  thT c4 (fun (e4_, s4_) =>
      lim (sz + 1) <|
      if e4_ = 0 then
        some (1, ((kE 0 K sz), (sz + 1), s4_))
      else
        none) fun y4 =>
  (wrA y4.2 l2 1 0 (w32 y4.1)).bind fun g8 =>
  some (0, (K, sz, g8))
def xLaw0_bears (l2 : Nat) (K : Nat → Nat) (sz : Nat) (g : GS) (l1 : Int) : Option (Int × S3) :=
  (x_bears K g l1).bind fun c4 =>
  thT c4 (fun (e4_, s4_) =>
      lim (sz + 1) <|
      if e4_ = 1 then
        some (1, ((kE 1 K sz), (sz + 1), s4_))
      else
        none) fun y4 =>
  (wrA y4.2 l2 1 0 (w32 y4.1)).bind fun g8 =>
  some (0, (K, sz, g8))
def xLaw0_rains_j15 (N : Nat) (l2 : Nat) (g : S3) (s0 : Int) (s1 : Int) : Option (Int × S3) :=
  (wrA g.2.2 l2 1 s1 s0).bind fun g15 =>
  some (0, (g.1, g.2.1, g15))
def xLaw0_rains (N : Nat) (l2 : Nat) (K : Nat → Nat) (sz : Nat) (g : GS) (l1 : Int) : Option (Int × S3) :=
  (x_rains N K g l1).bind fun c4 =>
  thT c4 (fun (e4_, s4_) =>
      lim (sz + 1) <|
      if e4_ = 1 then
        some (1, ((kE 1 K sz), (sz + 1), s4_))
      else
        none) fun y4 =>
  if w32 y4.1 = 0 then
    xLaw0_rains_j15 N l2 (K, sz, y4.2) 0 0
  else
    xLaw0_rains_j15 N l2 (K, sz, y4.2) 1 0
def xLaw0_would (l7 : Nat) (K : Nat → Nat) (sz : Nat) (g : GS) (l1 : Int) (l2 : Int) (l3 : Int) (l4 : Int) (l5 : Int) (l6 : Int) : Option (Int × S3) :=
  (x_would K sz g l1 l2 l3 l4 l5 l6).bind fun c13 =>
  thT c13 (fun (e13_, s13_) =>
      if e13_ = 1 then
        some (1, s13_)
      else
        none) fun y13 =>
  (wrA y13.2.2.2 l7 1 0 (w32 y13.1)).bind fun g17 =>
  some (0, (y13.2.1, y13.2.2.1, g17))
def xLaw0_line (N : Nat) (l3 : Nat) (K : Nat → Nat) (sz : Nat) (g : GS) (l1 : Int) (l2 : Int) : Option (Int × S3) :=
  (x_line N K g l1 l2).bind fun c5 =>
  thT c5 (fun (e5_, s5_) =>
      lim (sz + 1) <|
      if e5_ = 0 then
        some (1, ((kE 0 K sz), (sz + 1), s5_))
      else
        if e5_ = 1 then
          some (2, ((kE 1 K sz), (sz + 1), s5_))
        else
          none) fun y5 =>
  (wrA y5.2 l3 1 0 (w32 y5.1)).bind fun g9 =>
  some (0, (K, sz, g9))
def xLaw0_wet (N : Nat) (l2 : Nat) (K : Nat → Nat) (sz : Nat) (g : GS) (l1 : Int) : Option (Int × S3) :=
  (x_wet N K g l1).bind fun c4 =>
  thT c4 (fun (e4_, s4_) =>
      lim (sz + 1) <|
      if e4_ = 0 then
        some (1, ((kE 0 K sz), (sz + 1), s4_))
      else
        none) fun y4 =>
  (wrA y4.2 l2 1 0 (w32 y4.1)).bind fun g8 =>
  some (0, (K, sz, g8))
def xLaw0_idle (N : Nat) (l2 : Nat) (K : Nat → Nat) (sz : Nat) (g : GS) (l1 : Int) : Option (Int × S3) :=
  (x_idle N K g l1).bind fun c4 =>
  thT c4 (fun (e4_, s4_) =>
      lim (sz + 1) <|
      if e4_ = 0 then
        some (1, ((kE 0 K sz), (sz + 1), s4_))
      else
        none) fun y4 =>
  (wrA y4.2 l2 1 0 (w32 y4.1)).bind fun g8 =>
  some (0, (K, sz, g8))
def xLaw0_slack (N : Nat) (l2 : Nat) (K : Nat → Nat) (sz : Nat) (g : GS) (l1 : Int) : Option (Int × S3) :=
  (x_slack N K g l1).bind fun c4 =>
  thT c4 (fun (e4_, s4_) =>
      lim (sz + 1) <|
      if e4_ = 0 then
        some (1, ((kE 0 K sz), (sz + 1), s4_))
      else
        none) fun y4 =>
  (wrA y4.2 l2 1 0 (w32 y4.1)).bind fun g8 =>
  some (0, (K, sz, g8))
def xLaw0_ahead (N : Nat) (l2 : Nat) (K : Nat → Nat) (sz : Nat) (g : GS) (l1 : Int) : Option (Int × S3) :=
  (x_ahead N K g l1).bind fun c4 =>
  thT c4 (fun (e4_, s4_) =>
      lim (sz + 1) <|
      if e4_ = 0 then
        some (1, ((kE 0 K sz), (sz + 1), s4_))
      else
        none) fun y4 =>
  (wrA y4.2 l2 1 0 (w32 y4.1)).bind fun g8 =>
  some (0, (K, sz, g8))
def xLaw0_chain (N : Nat) (l2 : Nat) (K : Nat → Nat) (sz : Nat) (g : GS) (l1 : Int) : Option (Int × S3) :=
  (x_chain N K g l1).bind fun c4 =>
  thT c4 (fun (e4_, s4_) =>
      lim (sz + 1) <|
      if e4_ = 0 then
        some (1, ((kE 0 K sz), (sz + 1), s4_))
      else
        none) fun y4 =>
  (wrA y4.2 l2 1 0 (w32 y4.1)).bind fun g8 =>
  some (0, (K, sz, g8))
def xLaw0_soonest (N : Nat) (l2 : Nat) (K : Nat → Nat) (sz : Nat) (g : GS) (l1 : Int) : Option (Int × S3) :=
  (x_soonest N K g l1).bind fun c4 =>
  thT c4 (fun (e4_, s4_) =>
      lim (sz + 1) <|
      if e4_ = 1 then
        some (1, ((kE 1 K sz), (sz + 1), s4_))
      else
        if e4_ = 2 then
          some (2, ((kE 2 K sz), (sz + 1), s4_))
        else
          none) fun y4 =>
  (wrA y4.2 l2 1 0 (w32 y4.1)).bind fun g8 =>
  some (0, (K, sz, g8))
def xLaw0_first (N : Nat) (l2 : Nat) (K : Nat → Nat) (sz : Nat) (g : GS) (l1 : Int) : Option (Int × S3) :=
  (x_first N K g l1).bind fun c4 =>
  thT c4 (fun (e4_, s4_) =>
      lim (sz + 1) <|
      if e4_ = 1 then
        some (1, ((kE 1 K sz), (sz + 1), s4_))
      else
        if e4_ = 2 then
          some (2, ((kE 2 K sz), (sz + 1), s4_))
        else
          none) fun y4 =>
  (wrA y4.2 l2 1 0 (w32 y4.1)).bind fun g8 =>
  some (0, (K, sz, g8))
def xLaw0_sinks (N : Nat) (l4 : Nat) (K : Nat → Nat) (sz : Nat) (g : GS) (l1 : Int) (l2 : Int) (l3 : Int) : Option (Int × S3) :=
  (x_sinks N K g l1 l2 l3).bind fun c7 =>
  thT c7 (fun (e7_, s7_) =>
      lim (sz + 1) <|
      if e7_ = 1 then
        some (1, ((kE 1 K sz), (sz + 1), s7_))
      else
        none) fun y7 =>
  (wrA y7.2 l4 1 0 (w32 y7.1)).bind fun g11 =>
  some (0, (K, sz, g11))
def xLaw0_under (N : Nat) (l4 : Nat) (K : Nat → Nat) (sz : Nat) (g : GS) (l1 : Int) (l2 : Int) (l3 : Int) : Option (Int × S3) :=
  (x_under N K g l1 l2 l3).bind fun c7 =>
  thT c7 (fun (e7_, s7_) =>
      lim (sz + 1) <|
      if e7_ = 1 then
        some (1, ((kE 1 K sz), (sz + 1), s7_))
      else
        none) fun y7 =>
  (wrA y7.2 l4 1 0 (w32 y7.1)).bind fun g11 =>
  some (0, (K, sz, g11))
def xLaw0_push (N : Nat) (l5 : Nat) (K : Nat → Nat) (sz : Nat) (g : GS) (l1 : Int) (l2 : Int) (l3 : Int) (l4 : Int) : Option (Int × S3) :=
  (x_push N K g l1 l2 l3 l4).bind fun c9 =>
  thT c9 (fun (e9_, s9_) =>
      lim (sz + 1) <|
      if e9_ = 1 then
        some (1, ((kE 1 K sz), (sz + 1), s9_))
      else
        none) fun y9 =>
  (wrA y9.2 l5 1 0 (w32 y9.1)).bind fun g13 =>
  some (0, (K, sz, g13))
def xLaw0_tries (N : Nat) (l5 : Nat) (K : Nat → Nat) (sz : Nat) (g : GS) (l1 : Int) (l2 : Int) (l3 : Int) (l4 : Int) : Option (Int × S3) :=
  (x_tries N K g l1 l2 l3 l4).bind fun c9 =>
  thT c9 (fun (e9_, s9_) =>
      lim (sz + 1) <|
      if e9_ = 0 then
        some (1, ((kE 0 K sz), (sz + 1), s9_))
      else
        if e9_ = 1 then
          some (2, ((kE 1 K sz), (sz + 1), s9_))
        else
          none) fun y9 =>
  (wrA y9.2 l5 1 0 y9.1).bind fun g12 =>
  some (0, (K, sz, g12))
def xLaw0_half (N : Nat) (l3 : Nat) (K : Nat → Nat) (sz : Nat) (g : GS) (l1 : Int) (l2 : Int) : Option (Int × S3) :=
  (x_half N K g l1 l2).bind fun c5 =>
  thT c5 (fun (e5_, s5_) =>
      lim (sz + 1) <|
      if e5_ = 0 then
        some (1, ((kE 0 K sz), (sz + 1), s5_))
      else
        if e5_ = 1 then
          some (2, ((kE 1 K sz), (sz + 1), s5_))
        else
          none) fun y5 =>
  (wrA y5.2 l3 1 0 (w32 y5.1)).bind fun g9 =>
  some (0, (K, sz, g9))
def xLaw0_easiest (N : Nat) (l2 : Nat) (K : Nat → Nat) (sz : Nat) (g : GS) (l1 : Int) : Option (Int × S3) :=
  (x_easiest N K g l1).bind fun c4 =>
  thT c4 (fun (e4_, s4_) =>
      lim (sz + 1) <|
      if e4_ = 1 then
        some (1, ((kE 1 K sz), (sz + 1), s4_))
      else
        none) fun y4 =>
  (wrA y4.2 l2 1 0 (w32 y4.1)).bind fun g8 =>
  some (0, (K, sz, g8))
def xLaw0_waits (N : Nat) (l5 : Nat) (K : Nat → Nat) (sz : Nat) (g : GS) (l1 : Int) (l2 : Int) (l3 : Int) (l4 : Int) : Option (Int × S3) :=
  (x_waits N K g l1 l2 l3 l4).bind fun c9 =>
  thT c9 (fun (e9_, s9_) =>
      lim (sz + 1) <|
      if e9_ = 1 then
        some (1, ((kE 1 K sz), (sz + 1), s9_))
      else
        none) fun y9 =>
  (wrA y9.2 l5 1 0 y9.1).bind fun g12 =>
  some (0, (K, sz, g12))
def xLaw0_await (N : Nat) (l3 : Nat) (K : Nat → Nat) (sz : Nat) (g : GS) (l1 : Int) (l2 : Int) : Option (Int × S3) :=
  (x_await N K g l1 l2).bind fun c5 =>
  thT c5 (fun (e5_, s5_) =>
      lim (sz + 1) <|
      if e5_ = 1 then
        some (1, ((kE 1 K sz), (sz + 1), s5_))
      else
        none) fun y5 =>
  (wrA y5.2 l3 1 0 (w32 y5.1)).bind fun g9 =>
  some (0, (K, sz, g9))
def xLaw0_cross (N : Nat) (l3 : Nat) (K : Nat → Nat) (sz : Nat) (g : GS) (l1 : Int) (l2 : Int) : Option (Int × S3) :=
  (x_cross N g l1 l2).bind fun c5 =>
  thT c5 (fun (e5_, s5_) =>
      lim (sz + 1) <|
      if e5_ = 1 then
        some (1, ((kE 1 K sz), (sz + 1), s5_))
      else
        none) fun y5 =>
  (wrA y5.2 l3 1 0 (w32 y5.1)).bind fun g9 =>
  some (0, (K, sz, g9))
def xLaw0_crooked (N : Nat) (l2 : Nat) (K : Nat → Nat) (sz : Nat) (g : GS) (l1 : Int) : Option (Int × S3) :=
  (x_crooked N g l1).bind fun c4 =>
  thT c4 (fun (e4_, s4_) =>
      lim (sz + 1) <|
      if e4_ = 1 then
        some (1, ((kE 1 K sz), (sz + 1), s4_))
      else
        none) fun y4 =>
  (wrA y4.2 l2 1 0 (w32 y4.1)).bind fun g8 =>
  some (0, (K, sz, g8))
def xLaw0_share (l2 : Nat) (K : Nat → Nat) (sz : Nat) (g : GS) (l1 : Int) : Option (Int × S3) :=
  (x_share g l1).bind fun c4 =>
  thT c4 (fun (e4_, s4_) =>
      lim (sz + 1) <|
      if e4_ = 1 then
        some (1, ((kE 1 K sz), (sz + 1), s4_))
      else
        none) fun y4 =>
  (wrA y4.2 l2 1 0 (w32 y4.1)).bind fun g8 =>
  some (0, (K, sz, g8))
def xLaw0_drive (N : Nat) (l2 : Nat) (K : Nat → Nat) (sz : Nat) (g : GS) (l1 : Int) : Option (Int × S3) :=
  (x_drive N K g l1).bind fun c4 =>
  thT c4 (fun (e4_, s4_) =>
      lim (sz + 1) <|
      if e4_ = 1 then
        some (1, ((kE 1 K sz), (sz + 1), s4_))
      else
        none) fun y4 =>
  (wrA y4.2 l2 1 0 (w32 y4.1)).bind fun g8 =>
  some (0, (K, sz, g8))
def xLaw0_pumps (N : Nat) (l2 : Nat) (K : Nat → Nat) (sz : Nat) (g : GS) (l1 : Int) : Option (Int × S3) :=
  (x_pumps N K g l1).bind fun c4 =>
  thT c4 (fun (e4_, s4_) =>
      lim (sz + 1) <|
      if e4_ = 1 then
        some (1, ((kE 1 K sz), (sz + 1), s4_))
      else
        none) fun y4 =>
  (wrA y4.2 l2 1 0 (w32 y4.1)).bind fun g8 =>
  some (0, (K, sz, g8))
def xLaw0_odds (N : Nat) (l3 : Nat) (K : Nat → Nat) (sz : Nat) (g : GS) (l1 : Int) (l2 : Int) : Option (Int × S3) :=
  (x_odds N K g l1 l2).bind fun c5 =>
  thT c5 (fun (e5_, s5_) =>
      lim (sz + 1) <|
      if e5_ = 0 then
        some (1, ((kE 0 K sz), (sz + 1), s5_))
      else
        if e5_ = 1 then
          some (2, ((kE 1 K sz), (sz + 1), s5_))
        else
          none) fun y5 =>
  (wrA y5.2 l3 1 0 y5.1).bind fun g8 =>
  some (0, (K, sz, g8))
def xLaw0_evening (N : Nat) (l3 : Nat) (K : Nat → Nat) (sz : Nat) (g : GS) (l1 : Int) (l2 : Int) : Option (Int × S3) :=
  (x_evening N K g l1 l2).bind fun c5 =>
  thT c5 (fun (e5_, s5_) =>
      lim (sz + 1) <|
      if e5_ = 1 then
        some (1, ((kE 1 K sz), (sz + 1), s5_))
      else
        none) fun y5 =>
  (wrA y5.2 l3 1 0 (w32 y5.1)).bind fun g9 =>
  some (0, (K, sz, g9))
def xLaw0_evenings (N : Nat) (l4 : Nat) (K : Nat → Nat) (sz : Nat) (g : GS) (l1 : Int) (l2 : Int) (l3 : Int) : Option (Int × S3) :=
  (x_evenings N K g l1 l2 l3).bind fun c7 =>
  thT c7 (fun (e7_, s7_) =>
      lim (sz + 1) <|
      if e7_ = 1 then
        some (1, ((kE 1 K sz), (sz + 1), s7_))
      else
        none) fun y7 =>
  (wrA y7.2 l4 1 0 (w32 y7.1)).bind fun g11 =>
  some (0, (K, sz, g11))
def xLaw0_swap (l3 : Nat) (K : Nat → Nat) (sz : Nat) (g : GS) (l1 : Int) (l2 : Int) : Option (Int × S3) :=
  (x_swap K g l1 l2).bind fun c5 =>
  thT c5 (fun (e5_, s5_) =>
      lim (sz + 1) <|
      if e5_ = 0 then
        some (1, ((kE 0 K sz), (sz + 1), s5_))
      else
        none) fun y5 =>
  (wrA y5.2 l3 1 0 (w32 y5.1)).bind fun g9 =>
  some (0, (K, sz, g9))
def xLaw0_hand (l3 : Nat) (K : Nat → Nat) (sz : Nat) (g : GS) (l1 : Int) (l2 : Int) : Option (Int × S3) :=
  (x_hand K g l1 l2).bind fun c5 =>
  thT c5 (fun (e5_, s5_) =>
      lim (sz + 1) <|
      if e5_ = 0 then
        some (1, ((kE 0 K sz), (sz + 1), s5_))
      else
        if e5_ = 1 then
          some (2, ((kE 1 K sz), (sz + 1), s5_))
        else
          none) fun y5 =>
  (wrA y5.2 l3 1 0 (w32 y5.1)).bind fun g9 =>
  some (0, (K, sz, g9))
def xLaw0_drop (N : Nat) (l2 : Nat) (K : Nat → Nat) (sz : Nat) (g : GS) (l1 : Int) : Option (Int × S3) :=
  (x_drop N K g l1).bind fun c4 =>
  thT c4 (fun (e4_, s4_) =>
      lim (sz + 1) <|
      if e4_ = 0 then
        some (1, ((kE 0 K sz), (sz + 1), s4_))
      else
        none) fun y4 =>
  (wrA y4.2 l2 1 0 (w32 y4.1)).bind fun g8 =>
  some (0, (K, sz, g8))
