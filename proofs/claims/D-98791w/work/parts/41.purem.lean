abbrev tx_board : List Int := [98, 111, 97, 114, 100]
theorem as_board : asc tx_board ∧ tx_board.length < 1000 := ⟨by unfold asc; decide, by decide⟩
abbrev tx_cause : List Int := [99, 97, 117, 115, 101]
theorem as_cause : asc tx_cause ∧ tx_cause.length < 1000 := ⟨by unfold asc; decide, by decide⟩
abbrev tx_deed : List Int := [100, 101, 101, 100]
theorem as_deed : asc tx_deed ∧ tx_deed.length < 1000 := ⟨by unfold asc; decide, by decide⟩
abbrev tx_hands : List Int := [104, 97, 110, 100, 115]
theorem as_hands : asc tx_hands ∧ tx_hands.length < 1000 := ⟨by unfold asc; decide, by decide⟩
abbrev tx_least : List Int := [108, 101, 97, 115, 116]
theorem as_least : asc tx_least ∧ tx_least.length < 1000 := ⟨by unfold asc; decide, by decide⟩
abbrev tx_load : List Int := [108, 111, 97, 100]
theorem as_load : asc tx_load ∧ tx_load.length < 1000 := ⟨by unfold asc; decide, by decide⟩
abbrev tx_loses : List Int := [108, 111, 115, 101, 115]
theorem as_loses : asc tx_loses ∧ tx_loses.length < 1000 := ⟨by unfold asc; decide, by decide⟩
abbrev tx_minute : List Int := [109, 105, 110, 117, 116, 101]
theorem as_minute : asc tx_minute ∧ tx_minute.length < 1000 := ⟨by unfold asc; decide, by decide⟩
abbrev tx_minutes : List Int := [109, 105, 110, 117, 116, 101, 115]
theorem as_minutes : asc tx_minutes ∧ tx_minutes.length < 1000 := ⟨by unfold asc; decide, by decide⟩
abbrev tx_most : List Int := [109, 111, 115, 116]
theorem as_most : asc tx_most ∧ tx_most.length < 1000 := ⟨by unfold asc; decide, by decide⟩
abbrev tx_needs : List Int := [110, 101, 101, 100, 115]
theorem as_needs : asc tx_needs ∧ tx_needs.length < 1000 := ⟨by unfold asc; decide, by decide⟩
abbrev tx_nut : List Int := [110, 117, 116]
theorem as_nut : asc tx_nut ∧ tx_nut.length < 1000 := ⟨by unfold asc; decide, by decide⟩
abbrev tx_out : List Int := [111, 117, 116]
theorem as_out : asc tx_out ∧ tx_out.length < 1000 := ⟨by unfold asc; decide, by decide⟩
abbrev tx_person : List Int := [112, 101, 114, 115, 111, 110]
theorem as_person : asc tx_person ∧ tx_person.length < 1000 := ⟨by unfold asc; decide, by decide⟩
abbrev tx_rain : List Int := [114, 97, 105, 110]
theorem as_rain : asc tx_rain ∧ tx_rain.length < 1000 := ⟨by unfold asc; decide, by decide⟩
abbrev tx_soft : List Int := [115, 111, 102, 116]
theorem as_soft : asc tx_soft ∧ tx_soft.length < 1000 := ⟨by unfold asc; decide, by decide⟩
abbrev tx_stops : List Int := [115, 116, 111, 112, 115]
theorem as_stops : asc tx_stops ∧ tx_stops.length < 1000 := ⟨by unfold asc; decide, by decide⟩
abbrev tx_strong : List Int := [115, 116, 114, 111, 110, 103]
theorem as_strong : asc tx_strong ∧ tx_strong.length < 1000 := ⟨by unfold asc; decide, by decide⟩
abbrev tx_yard : List Int := [121, 97, 114, 100]
theorem as_yard : asc tx_yard ∧ tx_yard.length < 1000 := ⟨by unfold asc; decide, by decide⟩
/-! RainWheelModel: its methods as pure functions (printed by gen/model.py) -/
def m_thrown (g : GS) : Option Int :=
  some (gI g 900 0)
def m_may_j26 (g : GS) : Option (Int × GS) :=
  if ¬ w32 (gI g 900 0) = 0 then
    some (0, g)
  else
    some (1, g)
def m_may (g : GS) (l1 : Int) (l2 : Int) (l3 : Int) : Option (Int × GS) :=
  if ¬ w32 l1 = 0 then
    m_may_j26 g
  else
    if ¬ w32 (gI g 900 0) = 0 then
      m_may_j26 g
    else
      (rdA (sI g 900 0 l2) 1 3 l3).bind fun v22 =>
      (wrA (sI g 900 0 l2) 1 3 l3 (v22 + 1)).bind fun g25 =>
      m_may_j26 g25
def m_within (l0 : Int) (l1 : Int) (l2 : Int) : Option Int :=
  if w32 l0 < w32 l1 then
    some 0
  else
    if w32 l2 < w32 l0 then
      some 0
    else
      some 1
def m_clears_b53 (N : Nat) (g : GS) (l1 : Int) : Option ((GS × Int) ⊕ (GS)) :=
  if w32 241 ≤ w32 l1 then
    some (.inr g)
  else
    rtZ 0 <|
    (wrA g 15 241 l1 0).bind fun g66 =>
    some (.inl (g66, (l1 + 1)))
def m_clears_b32 (N : Nat) (g : GS) (l1 : Int) : Option ((GS × Int) ⊕ (GS)) :=
  if w32 60 ≤ w32 l1 then
    some (.inr g)
  else
    (wrA g 5 60 l1 3).bind fun g44 =>
    some (.inl (g44, (l1 + 1)))
def m_clears (N : Nat) (g : GS) : Option GS :=
  (loopN (fun s => m_clears_b32 N s.1 s.2) N ((sI (sI (sI (sI (sI (sI g 926 0 0) 927 0 0) 928 0 0) 929 0 0) 930 0 0) 931 0 0), 0)).bind fun t1 =>
  (loopN (fun s => m_clears_b53 N s.1 s.2) N (t1, 0)).bind fun t2 =>
  (wrA t2 17 5 0 20).bind fun g80 =>
  (wrA g80 17 5 1 2).bind fun g87 =>
  (wrA g87 17 5 2 0).bind fun g94 =>
  (wrA g94 17 5 3 30).bind fun g102 =>
  (wrA g102 17 5 4 5).bind fun g109 =>
  some g109
def m_copies_b3 (N : Nat) (l1 : Nat) (n1 : Nat) (l2 : Nat) (n2 : Nat) (l3 : Int) (g : GS) (l4 : Int) : Option ((GS × Int) ⊕ GS) :=
  if w32 l3 ≤ w32 l4 then
    outR (some g)
  else
    (rdA g l1 n1 l4).bind fun v15 =>
    (wrA g l2 n2 l4 v15).bind fun g16 =>
    some (.inl (g16, (l4 + 1)))
def m_copies (N : Nat) (l1 : Nat) (n1 : Nat) (l2 : Nat) (n2 : Nat) (g : GS) (l3 : Int) : Option GS :=
  loopN (fun s => m_copies_b3 N l1 n1 l2 n2 l3 s.1 s.2) N (g, 0)
def m_sets_b175 (N : Nat) (g : GS) (l1 : Int) : Option ((GS × Int) ⊕ (GS)) :=
  if w32 3 ≤ w32 l1 then
    some (.inr g)
  else
    (wrA g 28 3 l1 (-1)).bind fun g186 =>
    some (.inl (g186, (l1 + 1)))
def m_sets_b138 (N : Nat) (g : GS) (l1 : Int) : Option ((GS × Int) ⊕ (GS)) :=
  if w32 241 ≤ w32 l1 then
    some (.inr g)
  else
    (rdA g 15 241 l1).bind fun v155 =>
    rtZ v155 <|
    (wrA g 16 241 l1 v155).bind fun g156 =>
    some (.inl (g156, (l1 + 1)))
def m_sets (N : Nat) (g : GS) : Option GS :=
  (m_copies N 3 4 9 4 (sI (sI (sI (sI (sI g 932 0 (gI g 926 0)) 933 0 (gI (sI g 932 0 (gI g 926 0)) 927 0)) 934 0 (gI (sI (sI g 932 0 (gI g 926 0)) 933 0 (gI (sI g 932 0 (gI g 926 0)) 927 0)) 929 0)) 935 0 (gI (sI (sI (sI g 932 0 (gI g 926 0)) 933 0 (gI (sI g 932 0 (gI g 926 0)) 927 0)) 934 0 (gI (sI (sI g 932 0 (gI g 926 0)) 933 0 (gI (sI g 932 0 (gI g 926 0)) 927 0)) 929 0)) 930 0)) 936 0 (gI (sI (sI (sI (sI g 932 0 (gI g 926 0)) 933 0 (gI (sI g 932 0 (gI g 926 0)) 927 0)) 934 0 (gI (sI (sI g 932 0 (gI g 926 0)) 933 0 (gI (sI g 932 0 (gI g 926 0)) 927 0)) 929 0)) 935 0 (gI (sI (sI (sI g 932 0 (gI g 926 0)) 933 0 (gI (sI g 932 0 (gI g 926 0)) 927 0)) 934 0 (gI (sI (sI g 932 0 (gI g 926 0)) 933 0 (gI (sI g 932 0 (gI g 926 0)) 927 0)) 929 0)) 930 0)) 931 0)) 4).bind fun c50 =>
  (m_copies N 4 60 10 60 c50 60).bind fun c64 =>
  (m_copies N 5 60 11 60 c64 60).bind fun c78 =>
  (m_copies N 6 6 12 6 c78 6).bind fun c92 =>
  (m_copies N 7 8 13 8 c92 8).bind fun c106 =>
  (m_copies N 8 16 14 16 c106 16).bind fun c120 =>
  (m_copies N 17 5 18 5 c120 5).bind fun c133 =>
  (loopN (fun s => m_sets_b138 N s.1 s.2) N (c133, 0)).bind fun t1 =>
  (loopN (fun s => m_sets_b175 N s.1 s.2) N ((sI (sI t1 943 0 0) 949 0 0), 0)).bind fun t2 =>
  some (sI (sI (sI t2 950 0 0) 970 0 0) 972 0 0)
def m_feed_j76 (N : Nat) (g : GS) (l1 : Int) (l2 : Int) (l3 : Int) (l4 : Int) (l5 : Int) (l6 : Int) (s0 : Int) : Option ((GS × Int) ⊕ (Int × GS)) :=
  (wrA g 2 600 (gI g 902 0) (i_and (i_shr s0 (24 - (8 * (i_rem l6 4)))) 255)).bind fun g103 =>
  some (.inl ((sI g103 902 0 ((gI g103 902 0) + 1)), (l6 + 1)))
def m_feed_b23 (N : Nat) (l1 : Int) (l2 : Int) (l3 : Int) (l4 : Int) (l5 : Int) (g : GS) (l6 : Int) : Option ((GS × Int) ⊕ (Int × GS)) :=
  if w32 20 ≤ w32 l6 then
    outR (some ((gI g 902 0), g))
  else
    if w32 4 ≤ w32 l6 then
      if w32 8 ≤ w32 l6 then
        if w32 12 ≤ w32 l6 then
          if w32 16 ≤ w32 l6 then
            m_feed_j76 N g l1 l2 l3 l4 l5 l6 l5
          else
            m_feed_j76 N g l1 l2 l3 l4 l5 l6 l4
        else
          m_feed_j76 N g l1 l2 l3 l4 l5 l6 l3
      else
        m_feed_j76 N g l1 l2 l3 l4 l5 l6 l2
    else
      m_feed_j76 N g l1 l2 l3 l4 l5 l6 l1
def m_feed (N : Nat) (g : GS) (l1 : Int) (l2 : Int) (l3 : Int) (l4 : Int) (l5 : Int) : Option (Int × GS) :=
  if w32 ((gI (sI g 900 0 0) 902 0) + 20) ≤ w32 600 then
    loopN (fun s => m_feed_b23 N l1 l2 l3 l4 l5 s.1 s.2) N ((sI g 900 0 0), 0)
  else
    some ((-1), (sI g 900 0 0))
def m_fine (g : GS) : Option Int :=
  if ¬ w32 (gI g 905 0) = w32 (-1) then
    some 0
  else
    some 1
def m_wrong (g : GS) (l1 : Int) (l2 : Int) : Option GS :=
  if w32 (gI g 905 0) = w32 (-1) then
    some (sI (sI g 905 0 l2) 906 0 l1)
  else
    some g
def m_here_j38 (N : Nat) (g : GS) : Option (Int × GS) :=
  if w32 (gI g 903 0) ≤ w32 (gI g 904 0) then
    some (0, g)
  else
    (rdA g 2 600 (gI g 904 0)).bind fun v57 =>
    some (v57, g)
def m_here_b0 (N : Nat) (g : GS) : Option ((GS) ⊕ (GS)) :=
  if w32 (gI g 903 0) ≤ w32 (gI g 904 0) then
    some (.inr g)
  else
    (rdA g 2 600 (gI g 904 0)).bind fun v19 =>
    if ¬ w32 v19 = w32 32 then
      some (.inr g)
    else
      some (.inl (sI g 904 0 ((gI g 904 0) + 1)))
def m_here (N : Nat) (g : GS) : Option (Int × GS) :=
  (loopN (fun s => m_here_b0 N s) N g).bind fun t1 =>
  m_here_j38 N t1
def m_isSmall (l0 : Int) : Option Int :=
  if w32 l0 < w32 97 then
    some 0
  else
    if w32 122 < w32 l0 then
      some 0
    else
      some 1
def m_isDigit (l0 : Int) : Option Int :=
  if w32 l0 < w32 48 then
    some 0
  else
    if w32 57 < w32 l0 then
      some 0
    else
      some 1
def m_word_j67 (N : Nat) (g : GS) (l1 : Int) (l2 : Int) : Option (Int × GS) :=
  if w32 l2 ≤ w32 6 then
    some (l1, g)
  else
    some (0, g)
def m_word_j57 (N : Nat) (g : GS) (l2 : Int) (l3 : Int) (s0 : Int) : Option ((Int × Int × Int) ⊕ (Int × Int)) :=
  some (.inl (s0, (l2 + 1), (l3 + 1)))
def m_word_b14 (N : Nat) (g : GS) (l1 : Int) (l2 : Int) (l3 : Int) : Option ((Int × Int × Int) ⊕ (Int × Int)) :=
  if w32 (gI g 903 0) ≤ w32 l3 then
    some (.inr (l1, l2))
  else
    (rdA g 2 600 l3).bind fun v27 =>
    (m_isSmall v27).bind fun c28 =>
    if w32 c28 = 0 then
      some (.inr (l1, l2))
    else
      if w32 6 ≤ w32 l2 then
        m_word_j57 N g l2 l3 0
      else
        (rdA g 2 600 l3).bind fun v48 =>
        m_word_j57 N g l2 l3 (i_or (i_shl l1 5) (v48 - 96))
def m_word (N : Nat) (g : GS) : Option (Int × GS) :=
  (m_here N g).bind fun c1 =>
  (loopN (fun s => m_word_b14 N c1.2 s.1 s.2.1 s.2.2) N (0, 0, (gI c1.2 904 0))).bind fun t1 =>
  m_word_j67 N c1.2 t1.1 t1.2
def m_of_b4 (N : Nat) (t0 : List Int) (l1 : Int) (l2 : Int) : Option ((Int × Int) ⊕ Int) :=
  if w32 (t0.length : Int) ≤ w32 l2 then
    outR (some l1)
  else
    (chA t0 l2).bind fun v17 =>
    some (.inl ((i_or (i_shl l1 5) (v17 - 96)), (l2 + 1)))
def m_of (N : Nat) (t0 : List Int) : Option Int :=
  loopN (fun s => m_of_b4 N t0 s.1 s.2) N (0, 0)
def m_pass_b0 (N : Nat) (g : GS) : Option ((GS) ⊕ GS) :=
  if w32 (gI g 903 0) ≤ w32 (gI g 904 0) then
    outR (some g)
  else
    (rdA g 2 600 (gI g 904 0)).bind fun v19 =>
    (m_isSmall v19).bind fun c20 =>
    if w32 c20 = 0 then
      outR (some g)
    else
      some (.inl (sI g 904 0 ((gI g 904 0) + 1)))
def m_pass (N : Nat) (g : GS) : Option GS :=
  loopN (fun s => m_pass_b0 N s) N g
def m_readNumber_j126 (N : Nat) (g : GS) (l4 : Int) : Option (Int × GS) :=
  (m_wrong g 2 l4).bind fun c130 =>
  some (0, c130)
def m_readNumber_j114 (N : Nat) (g : GS) (l1 : Int) (l2 : Int) (l4 : Int) (l5 : Int) : Option (Int × GS) :=
  if w32 l5 < w32 l1 then
    m_readNumber_j126 N g l4
  else
    if w32 l5 ≤ w32 l2 then
      some (l5, g)
    else
      m_readNumber_j126 N g l4
def m_readNumber_j99 (N : Nat) (g : GS) (l1 : Int) (l2 : Int) (l4 : Int) (s0 : Int) : Option ((GS × Int) ⊕ (GS × Int)) :=
  some (.inl ((sI g 904 0 ((gI g 904 0) + 1)), s0))
def m_readNumber_b41 (N : Nat) (l1 : Int) (l2 : Int) (l4 : Int) (g : GS) (l5 : Int) : Option ((GS × Int) ⊕ (GS × Int)) :=
  if w32 (gI g 903 0) ≤ w32 (gI g 904 0) then
    some (.inr (g, l5))
  else
    (rdA g 2 600 (gI g 904 0)).bind fun v60 =>
    (m_isDigit v60).bind fun c61 =>
    if w32 c61 = 0 then
      some (.inr (g, l5))
    else
      if w32 l5 ≤ w32 9999 then
        (rdA g 2 600 (gI g 904 0)).bind fun v94 =>
        m_readNumber_j99 N g l1 l2 l4 (((10 * l5) + v94) - 48)
      else
        m_readNumber_j99 N g l1 l2 l4 10000
def m_readNumber (N : Nat) (g : GS) (l1 : Int) (l2 : Int) : Option (Int × GS) :=
  (m_fine g).bind fun c1 =>
  if ¬ w32 c1 = 0 then
    (m_here N g).bind fun c10 =>
    (m_isDigit c10.1).bind fun c24 =>
    if ¬ w32 c24 = 0 then
      (loopN (fun s => m_readNumber_b41 N l1 l2 (gI c10.2 904 0) s.1 s.2) N (c10.2, 0)).bind fun t1 =>
      m_readNumber_j114 N t1.1 l1 l2 (gI c10.2 904 0) t1.2
    else
      (m_wrong c10.2 1 (gI c10.2 904 0)).bind fun c36 =>
      some (0, c36)
  else
    some (0, g)
def m_sign_j24 (N : Nat) (g : GS) : Option GS :=
  (m_fine g).bind fun c25 =>
  if w32 c25 = 0 then
    some g
  else
    some (sI g 904 0 ((gI g 904 0) + 1))
def m_sign (N : Nat) (g : GS) (l1 : Int) : Option GS :=
  (m_fine g).bind fun c1 =>
  if w32 c1 = 0 then
    m_sign_j24 N g
  else
    (m_here N g).bind fun c8 =>
    if w32 c8.1 = w32 l1 then
      m_sign_j24 N c8.2
    else
      (m_wrong c8.2 1 (gI c8.2 904 0)).bind fun c21 =>
      m_sign_j24 N c21
def m_isMore (N : Nat) (g : GS) : Option (Int × GS) :=
  (m_here N g).bind fun c1 =>
  if w32 (gI c1.2 903 0) ≤ w32 (gI c1.2 904 0) then
    some (0, c1.2)
  else
    some (1, c1.2)
def m_begins (g : GS) (l1 : Int) : Option GS :=
  some (sI (sI (sI (sI (sI (sI g 902 0 0) 908 0 (-1)) 903 0 l1) 904 0 0) 905 0 (-1)) 907 0 0)
def m_result (g : GS) (l1 : Int) : Option (Int × GS) :=
  (m_fine (sI g 908 0 (gI g 905 0))).bind fun c9 =>
  if w32 c9 = 0 then
    some (((gI (sI g 908 0 (gI g 905 0)) 906 0) - 10), (sI g 908 0 (gI g 905 0)))
  else
    some (l1, (sI g 908 0 (gI g 905 0)))
def m_fault (g : GS) : Option (Int × GS) :=
  some ((gI (sI g 900 0 0) 908 0), (sI g 900 0 0))
def m_readThings_b235 (N : Nat) (l2 : Int) (g : GS) (l3 : Int) : Option ((GS × Int) ⊕ (GS)) :=
  if w32 4 ≤ w32 l3 then
    some (.inr g)
  else
    (m_readNumber N g 0 16).bind fun c251 =>
    (wrA c251.2 8 16 (l2 + l3) c251.1).bind fun g254 =>
    some (.inl (g254, (l3 + 1)))
def m_readThings (N : Nat) (g : GS) (l1 : Int) : Option GS :=
  (m_of N tx_person).bind fun c3 =>
  if ¬ w32 l1 = w32 c3 then
    (m_of N tx_deed).bind fun c42 =>
    if ¬ w32 l1 = w32 c42 then
      (m_of N tx_board).bind fun c139 =>
      if ¬ w32 l1 = w32 c139 then
        (m_of N tx_nut).bind fun c178 =>
        if ¬ w32 l1 = w32 c178 then
          (m_readNumber N g 1 16).bind fun c229 =>
          (wrA c229.2 8 16 (4 * (gI g 931 0)) c229.1).bind fun g232 =>
          (loopN (fun s => m_readThings_b235 N (4 * (gI g 931 0)) s.1 s.2) N (g232, 1)).bind fun t1 =>
          some (sI t1 931 0 ((gI t1 931 0) + 1))
        else
          (m_readNumber N g 0 15).bind fun c196 =>
          (wrA c196.2 7 8 (gI g 930 0) c196.1).bind fun g199 =>
          some (sI g199 930 0 ((gI g199 930 0) + 1))
      else
        (m_readNumber N g 1 9).bind fun c157 =>
        (wrA c157.2 6 6 (gI g 929 0) c157.1).bind fun g160 =>
        some (sI g160 929 0 ((gI g160 929 0) + 1))
    else
      (m_readNumber N g 1 30).bind fun c66 =>
      (wrA c66.2 4 60 ((5 * (gI g 927 0)) + 0) c66.1).bind fun g69 =>
      (m_readNumber N g69 0 1).bind fun c80 =>
      (wrA c80.2 4 60 ((5 * (gI g 927 0)) + 1) c80.1).bind fun g83 =>
      (m_readNumber N g83 1 2).bind fun c94 =>
      (wrA c94.2 4 60 ((5 * (gI g 927 0)) + 2) c94.1).bind fun g97 =>
      (m_readNumber N g97 0 18).bind fun c109 =>
      (wrA c109.2 4 60 ((5 * (gI g 927 0)) + 3) c109.1).bind fun g112 =>
      (wrA g112 4 60 ((5 * (gI g 927 0)) + 4) 0).bind fun g121 =>
      some (sI g121 927 0 ((gI g121 927 0) + 1))
  else
    (m_readNumber N g 1 9).bind fun c21 =>
    (wrA c21.2 3 4 (gI g 926 0) c21.1).bind fun g24 =>
    some (sI g24 926 0 ((gI g24 926 0) + 1))
def m_readOthers_b96 (N : Nat) (l3 : Int) (g : GS) (l4 : Int) : Option ((GS × Int) ⊕ (GS)) :=
  if w32 l3 < w32 l4 then
    some (.inr g)
  else
    rtZ 1 <|
    (wrA g 15 241 l4 1).bind fun g109 =>
    some (.inl (g109, (l4 + 1)))
def m_readOthers (N : Nat) (g : GS) (l1 : Int) : Option GS :=
  (m_of N tx_needs).bind fun c4 =>
  if ¬ w32 l1 = w32 c4 then
    (m_of N tx_rain).bind fun c61 =>
    if ¬ w32 l1 = w32 c61 then
      (m_of N tx_yard).bind fun c133 =>
      if ¬ w32 l1 = w32 c133 then
        (m_of N tx_load).bind fun c176 =>
        if ¬ w32 l1 = w32 c176 then
          (m_of N tx_stops).bind fun c202 =>
          if ¬ w32 l1 = w32 c202 then
            (m_of N tx_loses).bind fun c228 =>
            if ¬ w32 l1 = w32 c228 then
              (m_readNumber N g 0 99).bind fun c259 =>
              (wrA c259.2 17 5 3 c259.1).bind fun g262 =>
              (m_readNumber N g262 1 9).bind fun c272 =>
              (wrA c272.2 17 5 4 c272.1).bind fun g275 =>
              some g275
            else
              (m_readNumber N g 0 16).bind fun c243 =>
              (wrA c243.2 17 5 2 c243.1).bind fun g246 =>
              some g246
          else
            (m_readNumber N g 0 16).bind fun c217 =>
            (wrA c217.2 17 5 1 c217.1).bind fun g220 =>
            some g220
        else
          (m_readNumber N g 1 99).bind fun c191 =>
          (wrA c191.2 17 5 0 c191.1).bind fun g194 =>
          some g194
      else
        (m_readNumber N g 0 59).bind fun c143 =>
        (m_readNumber N c143.2 0 20).bind fun c151 =>
        (m_fine c151.2).bind fun c156 =>
        if w32 c156 = 0 then
          some c151.2
        else
          (wrA c151.2 5 60 c143.1 c151.1).bind fun g168 =>
          some g168
    else
      (m_readNumber N g 0 240).bind fun c72 =>
      (m_readNumber N c72.2 c72.1 240).bind fun c81 =>
      (m_fine c81.2).bind fun c86 =>
      if ¬ w32 c86 = 0 then
        (loopN (fun s => m_readOthers_b96 N c81.1 s.1 s.2) N (c81.2, c72.1)).bind fun t1 =>
        some (sI t1 928 0 ((gI t1 928 0) + 1))
      else
        some c81.2
  else
    (m_readNumber N g 0 ((gI g 927 0) - 1)).bind fun c18 =>
    (m_readNumber N c18.2 0 (c18.1 - 1)).bind fun c27 =>
    (m_fine c27.2).bind fun c32 =>
    if w32 c32 = 0 then
      some c27.2
    else
      (rdA c27.2 4 60 ((5 * c18.1) + 4)).bind fun v48 =>
      (wrA c27.2 4 60 ((5 * c18.1) + 4) (i_or v48 (i_shl 1 c27.1))).bind fun g53 =>
      some g53
def m_isThing (N : Nat) (l0 : Int) : Option Int :=
  (m_of N tx_person).bind fun c3 =>
  if w32 l0 = w32 c3 then
    some 1
  else
    (m_of N tx_deed).bind fun c13 =>
    if w32 l0 = w32 c13 then
      some 1
    else
      (m_of N tx_board).bind fun c23 =>
      if w32 l0 = w32 c23 then
        some 1
      else
        (m_of N tx_nut).bind fun c33 =>
        if w32 l0 = w32 c33 then
          some 1
        else
          (m_of N tx_cause).bind fun c43 =>
          if ¬ w32 l0 = w32 c43 then
            some 0
          else
            some 1
def m_isOther (N : Nat) (l0 : Int) : Option Int :=
  (m_of N tx_needs).bind fun c4 =>
  if w32 l0 = w32 c4 then
    some 1
  else
    (m_of N tx_rain).bind fun c14 =>
    if w32 l0 = w32 c14 then
      some 1
    else
      (m_of N tx_yard).bind fun c24 =>
      if w32 l0 = w32 c24 then
        some 1
      else
        (m_of N tx_load).bind fun c34 =>
        if w32 l0 = w32 c34 then
          some 1
        else
          (m_of N tx_stops).bind fun c44 =>
          if w32 l0 = w32 c44 then
            some 1
          else
            (m_of N tx_loses).bind fun c54 =>
            if w32 l0 = w32 c54 then
              some 1
            else
              (m_of N tx_soft).bind fun c64 =>
              if ¬ w32 l0 = w32 c64 then
                some 0
              else
                some 1
def m_isFull (N : Nat) (g : GS) (l1 : Int) : Option Int :=
  (m_of N tx_person).bind fun c3 =>
  if ¬ w32 l1 = w32 c3 then
    (m_of N tx_deed).bind fun c27 =>
    if ¬ w32 l1 = w32 c27 then
      (m_of N tx_rain).bind fun c52 =>
      if ¬ w32 l1 = w32 c52 then
        (m_of N tx_board).bind fun c77 =>
        if ¬ w32 l1 = w32 c77 then
          (m_of N tx_nut).bind fun c102 =>
          if ¬ w32 l1 = w32 c102 then
            (m_of N tx_cause).bind fun c127 =>
            if ¬ w32 l1 = w32 c127 then
              some 0
            else
              if ¬ w32 (gI g 931 0) = w32 4 then
                some 0
              else
                some 1
          else
            if ¬ w32 (gI g 930 0) = w32 8 then
              some 0
            else
              some 1
        else
          if ¬ w32 (gI g 929 0) = w32 6 then
            some 0
          else
            some 1
      else
        if ¬ w32 (gI g 928 0) = w32 6 then
          some 0
        else
          some 1
    else
      if ¬ w32 (gI g 927 0) = w32 12 then
        some 0
      else
        some 1
  else
    if ¬ w32 (gI g 926 0) = w32 4 then
      some 0
    else
      some 1
def m_road_j158 (N : Nat) (g : GS) : Option (Int × GS) :=
  (m_result g (gI g 927 0)).bind fun c163 =>
  if ¬ w32 (gI c163.2 905 0) = w32 (-1) then
    some (c163.1, c163.2)
  else
    (m_sets N c163.2).bind fun c176 =>
    some (c163.1, c176)
def m_road_j146 (N : Nat) (g : GS) (l2 : Int) : Option ((GS × Int) ⊕ (GS)) :=
  (m_sign N g 59).bind fun c149 =>
  some (.inl (c149, (l2 + 1)))
def m_road_j112 (N : Nat) (g : GS) (l2 : Int) (l3 : Int) : Option ((GS × Int) ⊕ (GS)) :=
  (m_fine g).bind fun c113 =>
  if ¬ w32 c113 = 0 then
    (m_pass N g).bind fun c123 =>
    (m_isThing N l3).bind fun c127 =>
    if w32 c127 = 0 then
      (m_readOthers N c123 l3).bind fun c143 =>
      m_road_j146 N c143 l2
    else
      (m_readThings N c123 l3).bind fun c135 =>
      m_road_j146 N c135 l2
  else
    some (.inr g)
def m_road_j103 (N : Nat) (g : GS) (l2 : Int) (l3 : Int) : Option ((GS × Int) ⊕ (GS)) :=
  (m_wrong g 3 (gI g 904 0)).bind fun c109 =>
  m_road_j112 N c109 l2 l3
def m_road_j89 (N : Nat) (g : GS) (l2 : Int) (l3 : Int) : Option ((GS × Int) ⊕ (GS)) :=
  if w32 l2 = w32 60 then
    m_road_j103 N g l2 l3
  else
    (m_isFull N g l3).bind fun c97 =>
    if w32 c97 = 0 then
      m_road_j112 N g l2 l3
    else
      m_road_j103 N g l2 l3
def m_road_b44 (N : Nat) (g : GS) (l2 : Int) : Option ((GS × Int) ⊕ (GS)) :=
  (m_fine g).bind fun c45 =>
  if w32 c45 = 0 then
    some (.inr g)
  else
    (m_isMore N g).bind fun c52 =>
    if w32 c52.1 = 0 then
      some (.inr c52.2)
    else
      (m_word N c52.2).bind fun c59 =>
      (m_isThing N c59.1).bind fun c64 =>
      if ¬ w32 c64 = 0 then
        m_road_j89 N c59.2 l2 c59.1
      else
        (m_isOther N c59.1).bind fun c71 =>
        if ¬ w32 c71 = 0 then
          m_road_j89 N c59.2 l2 c59.1
        else
          (m_wrong c59.2 1 (gI c59.2 904 0)).bind fun c83 =>
          m_road_j112 N c83 l2 c59.1
def m_road_j23 (N : Nat) (g : GS) (l1 : Int) (s0 : Int) : Option (Int × GS) :=
  (m_may g s0 1 1).bind fun c25 =>
  if ¬ w32 c25.1 = 0 then
    (m_begins c25.2 l1).bind fun c35 =>
    (m_clears N c35).bind fun c39 =>
    (loopN (fun s => m_road_b44 N s.1 s.2) N (c39, 0)).bind fun t1 =>
    m_road_j158 N t1
  else
    some (0, c25.2)
def m_road_j22 (N : Nat) (g : GS) (l1 : Int) : Option (Int × GS) :=
  m_road_j23 N g l1 0
def m_road (N : Nat) (g : GS) (l1 : Int) : Option (Int × GS) :=
  if w32 l1 < 0 then
    m_road_j22 N (sI g 900 0 0) l1
  else
    if w32 (gI (sI g 900 0 0) 902 0) < w32 l1 then
      m_road_j22 N (sI g 900 0 0) l1
    else
      m_road_j23 N (sI g 900 0 0) l1 1
def m_emit (g : GS) (l1 : Int) (l2 : Int) : Option GS :=
  (m_fine g).bind fun c1 =>
  if ¬ w32 c1 = 0 then
    (wrA g 19 150 (gI g 942 0) l1).bind fun g17 =>
    (wrA g17 20 150 (gI g17 942 0) l2).bind fun g27 =>
    some (sI g27 942 0 ((gI g27 942 0) + 1))
  else
    some g
def m_opensOne_j42 (g : GS) : Option GS :=
  some (sI g 907 0 ((gI g 907 0) + 1))
def m_opensOne_j25 (g : GS) (l1 : Int) : Option GS :=
  (m_fine g).bind fun c26 =>
  if w32 c26 = 0 then
    m_opensOne_j42 g
  else
    m_opensOne_j42 (sI g 904 0 ((gI g 904 0) + l1))
def m_opensOne (g : GS) (l1 : Int) : Option GS :=
  (m_fine g).bind fun c1 =>
  if w32 c1 = 0 then
    m_opensOne_j25 g l1
  else
    if ¬ w32 (gI g 907 0) = w32 6 then
      m_opensOne_j25 g l1
    else
      (m_wrong g 3 (gI g 904 0)).bind fun c22 =>
      m_opensOne_j25 c22 l1
def m_readTwo_F (N : Nat) (R_readSum : GS → Option GS) (g : GS) (l1 : Int) (l2 : Int) : Option GS :=
  (m_opensOne g l1).bind fun c2 =>
  (m_sign N c2 91).bind fun c8 =>
  (R_readSum c8).bind fun c12 =>
  (m_sign N c12 44).bind fun c18 =>
  (R_readSum c18).bind fun c22 =>
  (m_sign N c22 93).bind fun c28 =>
  (m_emit (sI c28 907 0 ((gI c28 907 0) - 1)) l2 0).bind fun c44 =>
  some c44
def m_standsHere_b7 (N : Nat) (t1 : List Int) (g : GS) (l2 : Int) : Option ((Int) ⊕ (Int × GS)) :=
  if w32 (t1.length : Int) ≤ w32 l2 then
    outR (if w32 (gI g 903 0) ≤ w32 ((gI g 904 0) + (t1.length : Int)) then
      some (1, g)
    else
      (rdA g 2 600 ((gI g 904 0) + (t1.length : Int))).bind fun v84 =>
      (m_isSmall v84).bind fun c85 =>
      if ¬ w32 c85 = 0 then
        some (0, g)
      else
        some (1, g))
  else
    if w32 (gI g 903 0) ≤ w32 ((gI g 904 0) + l2) then
      outR (some (0, g))
    else
      (rdA g 2 600 ((gI g 904 0) + l2)).bind fun v38 =>
      (chA t1 l2).bind fun v41 =>
      if w32 v38 = w32 v41 then
        some (.inl (l2 + 1))
      else
        outR (some (0, g))
def m_standsHere (N : Nat) (t1 : List Int) (g : GS) : Option (Int × GS) :=
  (m_here N g).bind fun c1 =>
  loopN (fun s => m_standsHere_b7 N t1 c1.2 s) N 0
def m_factHere (N : Nat) (g : GS) : Option (Int × GS) :=
  (m_standsHere N tx_minutes g).bind fun c4 =>
  if w32 c4.1 = 0 then
    (m_word N c4.2).bind fun c13 =>
    (m_of N tx_hands).bind fun c21 =>
    if ¬ w32 c13.1 = w32 c21 then
      (m_of N tx_strong).bind fun c35 =>
      if ¬ w32 c13.1 = w32 c35 then
        (m_of N tx_rain).bind fun c49 =>
        if ¬ w32 c13.1 = w32 c49 then
          (m_of N tx_minute).bind fun c63 =>
          if ¬ w32 c13.1 = w32 c63 then
            (m_of N tx_out).bind fun c77 =>
            if ¬ w32 c13.1 = w32 c77 then
              some ((-1), c13.2)
            else
              some (5, c13.2)
          else
            some (4, c13.2)
        else
          some (3, c13.2)
      else
        some (2, c13.2)
    else
      some (1, c13.2)
  else
    some (0, c4.2)
def m_readUnit_F_j136 (N : Nat) (R_readSum : GS → Option GS) (R_readTwo : GS → Int → Int → Option GS) (g : GS) (l1 : Int) : Option GS :=
  (m_fine g).bind fun c137 =>
  if ¬ w32 c137 = 0 then
    (m_pass N g).bind fun c145 =>
    (m_emit c145 1 l1).bind fun c151 =>
    some c151
  else
    some g
def m_readUnit_F (N : Nat) (R_readSum : GS → Option GS) (R_readTwo : GS → Int → Int → Option GS) (g : GS) : Option GS :=
  (m_fine g).bind fun c1 =>
  if ¬ w32 c1 = 0 then
    (m_here N g).bind fun c9 =>
    if ¬ w32 c9.1 = w32 40 then
      (m_here N c9.2).bind fun c46 =>
      (m_isDigit c46.1).bind fun c49 =>
      if w32 c49 = 0 then
        (m_word N c46.2).bind fun c72 =>
        (m_of N tx_least).bind fun c78 =>
        if ¬ w32 c72.1 = w32 c78 then
          (m_word N c72.2).bind fun c95 =>
          (m_of N tx_most).bind fun c101 =>
          if ¬ w32 c95.1 = w32 c101 then
            (m_factHere N c95.2).bind fun c118 =>
            if ¬ w32 c118.1 = w32 (-1) then
              m_readUnit_F_j136 N R_readSum R_readTwo c118.2 c118.1
            else
              (m_wrong c118.2 1 (gI c118.2 904 0)).bind fun c133 =>
              m_readUnit_F_j136 N R_readSum R_readTwo c133 c118.1
          else
            (R_readTwo c95.2 4 7).bind fun c111 =>
            some c111
        else
          (R_readTwo c72.2 5 6).bind fun c88 =>
          some c88
      else
        (m_readNumber N c46.2 0 999).bind fun c62 =>
        (m_emit c62.2 0 c62.1).bind fun c65 =>
        some c65
    else
      (m_opensOne c9.2 1).bind fun c19 =>
      (R_readSum c19).bind fun c23 =>
      (m_sign N c23 41).bind fun c29 =>
      some (sI c29 907 0 ((gI c29 907 0) - 1))
  else
    some g
def m_readProduct_F_j43 (N : Nat) (R_readUnit : GS → Option GS) (g : GS) (s0 : Int) : Option ((GS) ⊕ GS) :=
  (R_readUnit (sI g 904 0 ((gI g 904 0) + 1))).bind fun c55 =>
  (m_emit c55 s0 0).bind fun c61 =>
  some (.inl c61)
def m_readProduct_F_j29 (N : Nat) (R_readUnit : GS → Option GS) (g : GS) : Option ((GS) ⊕ GS) :=
  (m_here N g).bind fun c30 =>
  if ¬ w32 c30.1 = w32 42 then
    m_readProduct_F_j43 N R_readUnit c30.2 5
  else
    m_readProduct_F_j43 N R_readUnit c30.2 4
def m_readProduct_F_b4 (N : Nat) (R_readUnit : GS → Option GS) (g : GS) : Option ((GS) ⊕ GS) :=
  (m_fine g).bind fun c5 =>
  if w32 c5 = 0 then
    outR (some g)
  else
    (m_here N g).bind fun c12 =>
    if w32 c12.1 = w32 42 then
      m_readProduct_F_j29 N R_readUnit c12.2
    else
      (m_here N c12.2).bind fun c21 =>
      if ¬ w32 c21.1 = w32 47 then
        outR (some c21.2)
      else
        m_readProduct_F_j29 N R_readUnit c21.2
def m_readProduct_F (N : Nat) (R_readUnit : GS → Option GS) (g : GS) : Option GS :=
  (R_readUnit g).bind fun c1 =>
  loopN (fun s => m_readProduct_F_b4 N R_readUnit s) N c1
def m_readSum_F_j43 (N : Nat) (R_readProduct : GS → Option GS) (g : GS) (s0 : Int) : Option ((GS) ⊕ GS) :=
  (R_readProduct (sI g 904 0 ((gI g 904 0) + 1))).bind fun c55 =>
  (m_emit c55 s0 0).bind fun c61 =>
  some (.inl c61)
def m_readSum_F_j29 (N : Nat) (R_readProduct : GS → Option GS) (g : GS) : Option ((GS) ⊕ GS) :=
  (m_here N g).bind fun c30 =>
  if ¬ w32 c30.1 = w32 43 then
    m_readSum_F_j43 N R_readProduct c30.2 3
  else
    m_readSum_F_j43 N R_readProduct c30.2 2
def m_readSum_F_b4 (N : Nat) (R_readProduct : GS → Option GS) (g : GS) : Option ((GS) ⊕ GS) :=
  (m_fine g).bind fun c5 =>
  if w32 c5 = 0 then
    outR (some g)
  else
    (m_here N g).bind fun c12 =>
    if w32 c12.1 = w32 43 then
      m_readSum_F_j29 N R_readProduct c12.2
    else
      (m_here N c12.2).bind fun c21 =>
      if ¬ w32 c21.1 = w32 45 then
        outR (some c21.2)
      else
        m_readSum_F_j29 N R_readProduct c21.2
def m_readSum_F (N : Nat) (R_readProduct : GS → Option GS) (g : GS) : Option GS :=
  (R_readProduct g).bind fun c1 =>
  loopN (fun s => m_readSum_F_b4 N R_readProduct s) N c1
def m_readSum_R (N : Nat) : Nat → GS → Option GS
  | 0 => fun _ => none
  | d + 1 => m_readSum_F N (m_readProduct_F N (m_readUnit_F N (m_readSum_R N d) (m_readTwo_F N (m_readSum_R N d))))
def m_readSum (N : Nat) : GS → Option GS := m_readSum_R N 16
def m_law_j77 (N : Nat) (g : GS) : Option (Int × GS) :=
  (m_result g 1).bind fun c79 =>
  if w32 (gI c79.2 905 0) = w32 (-1) then
    (m_copies N 19 150 21 150 (sI c79.2 943 0 (gI c79.2 942 0)) (gI (sI c79.2 943 0 (gI c79.2 942 0)) 942 0)).bind fun c114 =>
    (m_copies N 20 150 22 150 c114 (gI c114 942 0)).bind fun c130 =>
    some (c79.1, c130)
  else
    some (c79.1, c79.2)
def m_law_j30 (N : Nat) (g : GS) (l1 : Int) (s0 : Int) : Option (Int × GS) :=
  (m_may g s0 1 1).bind fun c32 =>
  if ¬ w32 c32.1 = 0 then
    (m_begins c32.2 l1).bind fun c42 =>
    (m_readSum N (sI c42 942 0 0)).bind fun c51 =>
    (m_fine c51).bind fun c55 =>
    if w32 c55 = 0 then
      m_law_j77 N c51
    else
      (m_isMore N c51).bind fun c62 =>
      if w32 c62.1 = 0 then
        m_law_j77 N c62.2
      else
        (m_wrong c62.2 1 (gI c62.2 904 0)).bind fun c74 =>
        m_law_j77 N c74
  else
    some (0, c32.2)
def m_law_j29 (N : Nat) (g : GS) (l1 : Int) : Option (Int × GS) :=
  m_law_j30 N g l1 0
def m_law (N : Nat) (g : GS) (l1 : Int) : Option (Int × GS) :=
  if w32 l1 < 0 then
    m_law_j29 N (sI g 900 0 0) l1
  else
    if w32 (gI (sI g 900 0 0) 902 0) < w32 l1 then
      m_law_j29 N (sI g 900 0 0) l1
    else
      if w32 150 < w32 l1 then
        m_law_j29 N (sI g 900 0 0) l1
      else
        m_law_j30 N (sI g 900 0 0) l1 1
def m_both_j65 (l1 : Int) (l2 : Int) (s0 : Int) (s1 : Int) : Option Int :=
  if ¬ w32 s1 = w32 s0 then
    some l2
  else
    some l1
def m_both_j54 (l0 : Int) (l1 : Int) (l2 : Int) (s0 : Int) : Option Int :=
  if ¬ w32 l0 = w32 6 then
    m_both_j65 l1 l2 0 s0
  else
    m_both_j65 l1 l2 1 s0
def m_both (l0 : Int) (l1 : Int) (l2 : Int) : Option Int :=
  if ¬ w32 l0 = w32 2 then
    if ¬ w32 l0 = w32 3 then
      if ¬ w32 l0 = w32 4 then
        if ¬ w32 l0 = w32 5 then
          if w32 l2 ≤ w32 l1 then
            m_both_j54 l0 l1 l2 0
          else
            m_both_j54 l0 l1 l2 1
        else
          if ¬ w32 l2 = 0 then
            dvI l2 <|
            some (i_div l1 l2)
          else
            some 0
      else
        some (l1 * l2)
    else
      some (l1 - l2)
  else
    some (l1 + l2)
def m_valueNow_j53 (N : Nat) (g : GS) (l1 : Int) (l2 : Int) (s0 : Int) (s1 : Int) : Option ((GS × Int × Int) ⊕ (GS)) :=
  (wrA g 23 150 s1 s0).bind fun g53 =>
  some (.inl (g53, (l1 + 1), (l2 + 1)))
def m_valueNow_b4 (N : Nat) (g : GS) (l1 : Int) (l2 : Int) : Option ((GS × Int × Int) ⊕ (GS)) :=
  if w32 (gI g 943 0) ≤ w32 l2 then
    some (.inr g)
  else
    (rdA g 21 150 l2).bind fun v17 =>
    if w32 1 < w32 v17 then
      (rdA g 23 150 ((l1 + (-1)) - 1)).bind fun v78 =>
      (rdA g 23 150 (l1 + (-1))).bind fun v84 =>
      (m_both v17 v78 v84).bind fun c85 =>
      (wrA g 23 150 ((l1 + (-1)) - 1) c85).bind fun g88 =>
      some (.inl (g88, (l1 + (-1)), (l2 + 1)))
    else
      if ¬ w32 v17 = 0 then
        (rdA g 22 150 l2).bind fun v51 =>
        (rdA g 24 6 v51).bind fun v52 =>
        m_valueNow_j53 N g l1 l2 v52 l1
      else
        (rdA g 22 150 l2).bind fun v38 =>
        m_valueNow_j53 N g l1 l2 v38 l1
def m_valueNow (N : Nat) (g : GS) : Option (Int × GS) :=
  (loopN (fun s => m_valueNow_b4 N s.1 s.2.1 s.2.2) N (g, 0, 0)).bind fun t1 =>
  (rdA t1 23 150 0).bind fun v100 =>
  some (v100, t1)
def m_lastsNow_j20 (N : Nat) (g : GS) (s0 : Int) : Option (Int × GS) :=
  if w32 1 ≤ w32 s0 then
    if w32 s0 ≤ w32 99 then
      some (w32 s0, g)
    else
      some (99, g)
  else
    some (1, g)
def m_lastsNow (N : Nat) (g : GS) : Option (Int × GS) :=
  if ¬ w32 (gI g 943 0) = 0 then
    (m_valueNow N g).bind fun c17 =>
    m_lastsNow_j20 N c17.2 c17.1
  else
    (rdA g 24 6 0).bind fun v12 =>
    m_lastsNow_j20 N g v12
def m_readPeople_j79 (N : Nat) (g : GS) (l1 : Int) (l3 : Int) : Option (Int × GS) :=
  (m_fine g).bind fun c80 =>
  if w32 c80 = 0 then
    some (0, g)
  else
    some ((i_or (i_shl 1 l1) (i_shl 1 l3)), g)
def m_readPeople_j29 (N : Nat) (g : GS) (l1 : Int) : Option (Int × GS) :=
  (m_fine g).bind fun c30 =>
  if w32 c30 = 0 then
    some (0, g)
  else
    some ((i_shl 1 l1), g)
def m_readPeople (N : Nat) (g : GS) : Option (Int × GS) :=
  (m_readNumber N g 0 ((gI g 932 0) - 1)).bind fun c8 =>
  (m_fine c8.2).bind fun c13 =>
  if w32 c13 = 0 then
    m_readPeople_j29 N c8.2 c8.1
  else
    (m_here N c8.2).bind fun c20 =>
    (m_isDigit c20.1).bind fun c23 =>
    if ¬ w32 c23 = 0 then
      (m_readNumber N c20.2 0 ((gI c20.2 932 0) - 1)).bind fun c57 =>
      (m_fine c57.2).bind fun c62 =>
      if w32 c62 = 0 then
        m_readPeople_j79 N c57.2 c8.1 c57.1
      else
        if ¬ w32 c57.1 = w32 c8.1 then
          m_readPeople_j79 N c57.2 c8.1 c57.1
        else
          (m_wrong c57.2 2 (gI c20.2 904 0)).bind fun c76 =>
          m_readPeople_j79 N c76 c8.1 c57.1
    else
      m_readPeople_j29 N c20.2 c8.1
def m_plan_j163 (N : Nat) (g : GS) (l2 : Int) : Option (Int × GS) :=
  (m_result g l2).bind fun c165 =>
  if w32 (gI c165.2 905 0) = w32 (-1) then
    (m_copies N 25 24 26 24 (sI c165.2 949 0 l2) (2 * l2)).bind fun c198 =>
    some (c165.1, (sI c198 970 0 0))
  else
    some (c165.1, c165.2)
def m_plan_j106 (N : Nat) (g : GS) (l2 : Int) (l3 : Int) (l5 : Int) : Option ((GS × Int × Int) ⊕ (GS × Int)) :=
  (m_readPeople N g).bind fun c107 =>
  (m_sign N c107.2 59).bind fun c115 =>
  (m_fine c115).bind fun c119 =>
  if ¬ w32 c119 = 0 then
    (wrA c115 25 24 (2 * l2) l5).bind fun g144 =>
    (wrA g144 25 24 ((2 * l2) + 1) c107.1).bind fun g156 =>
    some (.inl (g156, (l2 + 1), (i_or l3 (i_shl 1 l5))))
  else
    some (.inr (c115, l2))
def m_plan_b49 (N : Nat) (g : GS) (l2 : Int) (l3 : Int) : Option ((GS × Int × Int) ⊕ (GS × Int)) :=
  (m_fine g).bind fun c50 =>
  if w32 c50 = 0 then
    some (.inr (g, l2))
  else
    (m_isMore N g).bind fun c57 =>
    if w32 c57.1 = 0 then
      some (.inr (c57.2, l2))
    else
      (m_readNumber N c57.2 0 ((gI c57.2 933 0) - 1)).bind fun c77 =>
      (m_fine c77.2).bind fun c83 =>
      if w32 c83 = 0 then
        m_plan_j106 N c77.2 l2 l3 c77.1
      else
        if ¬ w32 (i_and (i_shr l3 c77.1) 1) = w32 1 then
          m_plan_j106 N c77.2 l2 l3 c77.1
        else
          (m_wrong c77.2 2 (gI c57.2 904 0)).bind fun c103 =>
          m_plan_j106 N c103 l2 l3 c77.1
def m_plan_j30 (N : Nat) (g : GS) (l1 : Int) (s0 : Int) : Option (Int × GS) :=
  (m_may g s0 1 1).bind fun c32 =>
  if ¬ w32 c32.1 = 0 then
    (m_begins c32.2 l1).bind fun c42 =>
    (loopN (fun s => m_plan_b49 N s.1 s.2.1 s.2.2) N (c42, 0, 0)).bind fun t1 =>
    m_plan_j163 N t1.1 t1.2
  else
    some (0, c32.2)
def m_plan_j29 (N : Nat) (g : GS) (l1 : Int) : Option (Int × GS) :=
  m_plan_j30 N g l1 0
def m_plan (N : Nat) (g : GS) (l1 : Int) : Option (Int × GS) :=
  if w32 l1 < 0 then
    m_plan_j29 N (sI g 900 0 0) l1
  else
    if w32 (gI (sI g 900 0 0) 902 0) < w32 l1 then
      m_plan_j29 N (sI g 900 0 0) l1
    else
      if w32 150 < w32 l1 then
        m_plan_j29 N (sI g 900 0 0) l1
      else
        m_plan_j30 N (sI g 900 0 0) l1 1
def m_book_j156 (N : Nat) (g : GS) (l2 : Int) : Option (Int × GS) :=
  (m_result g l2).bind fun c158 =>
  if w32 (gI c158.2 905 0) = w32 (-1) then
    (m_copies N 27 3 28 3 (sI c158.2 950 0 l2) 3).bind fun c187 =>
    some (c158.1, c187)
  else
    some (c158.1, c158.2)
def m_book_j117 (N : Nat) (g : GS) (l2 : Int) (l4 : Int) : Option ((GS × Int) ⊕ (GS × Int)) :=
  (m_readNumber N g 0 1).bind fun c120 =>
  (m_sign N c120.2 59).bind fun c128 =>
  (m_fine c128).bind fun c132 =>
  if ¬ w32 c132 = 0 then
    (wrA c128 27 3 l4 c120.1).bind fun g149 =>
    some (.inl (g149, (l2 + 1)))
  else
    some (.inr (c128, l2))
def m_book_b66 (N : Nat) (g : GS) (l2 : Int) : Option ((GS × Int) ⊕ (GS × Int)) :=
  (m_fine g).bind fun c67 =>
  if w32 c67 = 0 then
    some (.inr (g, l2))
  else
    (m_isMore N g).bind fun c74 =>
    if w32 c74.1 = 0 then
      some (.inr (c74.2, l2))
    else
      (m_readNumber N c74.2 0 2).bind fun c88 =>
      (m_fine c88.2).bind fun c94 =>
      if w32 c94 = 0 then
        m_book_j117 N c88.2 l2 c88.1
      else
        (rdA c88.2 27 3 c88.1).bind fun v106 =>
        if w32 v106 = w32 (-1) then
          m_book_j117 N c88.2 l2 c88.1
        else
          (m_wrong c88.2 2 (gI c74.2 904 0)).bind fun c114 =>
          m_book_j117 N c114 l2 c88.1
def m_book_b46 (N : Nat) (g : GS) (l2 : Int) : Option ((GS × Int) ⊕ (GS)) :=
  if w32 3 ≤ w32 l2 then
    some (.inr g)
  else
    (wrA g 27 3 l2 (-1)).bind fun g57 =>
    some (.inl (g57, (l2 + 1)))
def m_book_j29 (N : Nat) (g : GS) (l1 : Int) (s0 : Int) : Option (Int × GS) :=
  (m_may g s0 1 1).bind fun c31 =>
  if ¬ w32 c31.1 = 0 then
    (m_begins c31.2 l1).bind fun c41 =>
    (loopN (fun s => m_book_b46 N s.1 s.2) N (c41, 0)).bind fun t1 =>
    (loopN (fun s => m_book_b66 N s.1 s.2) N (t1, 0)).bind fun t2 =>
    m_book_j156 N t2.1 t2.2
  else
    some (0, c31.2)
def m_book_j28 (N : Nat) (g : GS) (l1 : Int) : Option (Int × GS) :=
  m_book_j29 N g l1 0
def m_book (N : Nat) (g : GS) (l1 : Int) : Option (Int × GS) :=
  if w32 l1 < 0 then
    m_book_j28 N (sI g 900 0 0) l1
  else
    if w32 (gI (sI g 900 0 0) 902 0) < w32 l1 then
      m_book_j28 N (sI g 900 0 0) l1
    else
      if w32 40 < w32 l1 then
        m_book_j28 N (sI g 900 0 0) l1
      else
        m_book_j29 N (sI g 900 0 0) l1 1
def m_told (g : GS) (l1 : Int) : Option (Int × GS) :=
  (m_within l1 0 8).bind fun c10 =>
  (m_may (sI g 900 0 0) c10 1 1).bind fun c15 =>
  if ¬ w32 c15.1 = 0 then
    if w32 5 ≤ w32 l1 then
      if ¬ w32 l1 = w32 5 then
        if ¬ w32 l1 = w32 6 then
          if ¬ w32 l1 = w32 7 then
            (rdA c15.2 18 5 1).bind fun v125 =>
            some (v125, c15.2)
          else
            (rdA c15.2 18 5 0).bind fun v116 =>
            some (v116, c15.2)
        else
          some ((gI c15.2 950 0), c15.2)
      else
        some ((gI c15.2 949 0), c15.2)
    else
      if ¬ w32 l1 = 0 then
        if ¬ w32 l1 = w32 1 then
          if ¬ w32 l1 = w32 2 then
            if ¬ w32 l1 = w32 3 then
              some ((gI c15.2 936 0), c15.2)
            else
              some ((gI c15.2 935 0), c15.2)
          else
            some ((gI c15.2 934 0), c15.2)
        else
          some ((gI c15.2 933 0), c15.2)
      else
        some ((gI c15.2 932 0), c15.2)
  else
    some (0, c15.2)
def m_isDeed (g : GS) (l1 : Int) (l2 : Int) : Option (Int × GS) :=
  (m_within l1 0 ((gI g 933 0) - 1)).bind fun c9 =>
  (m_may g c9 l2 0).bind fun c14 =>
  rtZ c14.1 (some (c14.1, c14.2))
def m_isPerson (g : GS) (l1 : Int) (l2 : Int) : Option (Int × GS) :=
  (m_within l1 0 ((gI g 932 0) - 1)).bind fun c9 =>
  (m_may g c9 l2 0).bind fun c14 =>
  rtZ c14.1 (some (c14.1, c14.2))
def m_isNut (g : GS) (l1 : Int) (l2 : Int) : Option (Int × GS) :=
  (m_within l1 0 ((gI g 935 0) - 1)).bind fun c9 =>
  (m_may g c9 l2 0).bind fun c14 =>
  rtZ c14.1 (some (c14.1, c14.2))
def m_isLine (g : GS) (l1 : Int) (l2 : Int) : Option (Int × GS) :=
  (m_within l1 0 ((gI g 949 0) - 1)).bind fun c9 =>
  (m_may g c9 l2 0).bind fun c14 =>
  rtZ c14.1 (some (c14.1, c14.2))
def m_deed (g : GS) (l1 : Int) (l2 : Int) : Option (Int × GS) :=
  (m_isDeed (sI g 900 0 0) l1 1).bind fun c8 =>
  if w32 c8.1 = 0 then
    some (0, c8.2)
  else
    (m_within l2 0 4).bind fun c18 =>
    (m_may c8.2 c18 2 1).bind fun c23 =>
    if ¬ w32 c23.1 = 0 then
      (rdA c23.2 10 60 ((5 * l1) + l2)).bind fun v40 =>
      some (v40, c23.2)
    else
      some (0, c23.2)
def m_strong (g : GS) (l1 : Int) : Option (Int × GS) :=
  (m_isPerson (sI g 900 0 0) l1 1).bind fun c8 =>
  if ¬ w32 c8.1 = 0 then
    (rdA c8.2 9 4 l1).bind fun v21 =>
    some (v21, c8.2)
  else
    some (0, c8.2)
def m_bears (g : GS) (l1 : Int) : Option (Int × GS) :=
  (m_within l1 0 59).bind fun c10 =>
  (m_may (sI g 900 0 0) c10 1 1).bind fun c15 =>
  if ¬ w32 c15.1 = 0 then
    (rdA c15.2 11 60 l1).bind fun v28 =>
    some (v28, c15.2)
  else
    some (0, c15.2)
def m_isRain (g : GS) (l1 : Int) : Option Int :=
  if w32 241 ≤ w32 l1 then
    some 0
  else
    (rdA g 16 241 l1).bind fun v12 =>
    if w32 v12 = 0 then
      some 0
    else
      some 1
def m_rains (g : GS) (l1 : Int) : Option (Int × GS) :=
  (m_within l1 0 240).bind fun c11 =>
  (m_may (sI g 900 0 0) c11 1 1).bind fun c16 =>
  if ¬ w32 c16.1 = 0 then
    (rdA c16.2 16 241 l1).bind fun v29 =>
    rtZ v29 (some (v29, c16.2))
  else
    some (0, c16.2)
def m_would_j72 (N : Nat) (g : GS) (l1 : Int) (l2 : Int) (l3 : Int) (l4 : Int) (l5 : Int) (l6 : Int) (s0 : Int) : Option (Int × GS) :=
  (m_may g s0 1 1).bind fun c74 =>
  if ¬ w32 c74.1 = 0 then
    (wrA c74.2 24 6 0 l1).bind fun g88 =>
    (wrA g88 24 6 1 l2).bind fun g95 =>
    (wrA g95 24 6 2 l3).bind fun g102 =>
    (wrA g102 24 6 3 l4).bind fun g110 =>
    (wrA g110 24 6 4 l5).bind fun g118 =>
    (wrA g118 24 6 5 l6).bind fun g126 =>
    (m_lastsNow N g126).bind fun c128 =>
    some (c128.1, c128.2)
  else
    some (0, c74.2)
def m_would_j71 (N : Nat) (g : GS) (l1 : Int) (l2 : Int) (l3 : Int) (l4 : Int) (l5 : Int) (l6 : Int) : Option (Int × GS) :=
  m_would_j72 N g l1 l2 l3 l4 l5 l6 0
def m_would (N : Nat) (g : GS) (l1 : Int) (l2 : Int) (l3 : Int) (l4 : Int) (l5 : Int) (l6 : Int) : Option (Int × GS) :=
  (m_within l1 1 30).bind fun c10 =>
  if w32 c10 = 0 then
    m_would_j71 N (sI g 900 0 0) l1 l2 l3 l4 l5 l6
  else
    (m_within l2 1 2).bind fun c19 =>
    if w32 c19 = 0 then
      m_would_j71 N (sI g 900 0 0) l1 l2 l3 l4 l5 l6
    else
      (m_within l3 0 18).bind fun c29 =>
      if w32 c29 = 0 then
        m_would_j71 N (sI g 900 0 0) l1 l2 l3 l4 l5 l6
      else
        (m_within l4 0 1).bind fun c39 =>
        if w32 c39 = 0 then
          m_would_j71 N (sI g 900 0 0) l1 l2 l3 l4 l5 l6
        else
          (m_within l5 0 240).bind fun c51 =>
          if w32 c51 = 0 then
            m_would_j71 N (sI g 900 0 0) l1 l2 l3 l4 l5 l6
          else
            (m_within l6 0 1).bind fun c61 =>
            if w32 c61 = 0 then
              m_would_j71 N (sI g 900 0 0) l1 l2 l3 l4 l5 l6
            else
              m_would_j72 N (sI g 900 0 0) l1 l2 l3 l4 l5 l6 1
def m_strengthOf_b4 (N : Nat) (g : GS) (l1 : Int) (l2 : Int) (l3 : Int) : Option ((Int × Int) ⊕ Int) :=
  if w32 (gI g 932 0) ≤ w32 l3 then
    outR (some l2)
  else
    (rdA g 9 4 l3).bind fun v23 =>
    some (.inl ((l2 + ((i_and (i_shr l1 l3) 1) * v23)), (l3 + 1)))
def m_strengthOf (N : Nat) (g : GS) (l1 : Int) : Option Int :=
  loopN (fun s => m_strengthOf_b4 N g l1 s.1 s.2) N (0, 0)
def m_onesOf_b4 (N : Nat) (g : GS) (l1 : Int) (l2 : Int) (l3 : Int) : Option ((Int × Int) ⊕ Int) :=
  if w32 12 ≤ w32 l3 then
    outR (some l2)
  else
    some (.inl ((l2 + (i_and (i_shr l1 l3) 1)), (l3 + 1)))
def m_onesOf (N : Nat) (g : GS) (l1 : Int) : Option Int :=
  loopN (fun s => m_onesOf_b4 N g l1 s.1 s.2) N (0, 0)
def m_mayDo (N : Nat) (g : GS) (l1 : Int) (l2 : Int) : Option Int :=
  (m_onesOf N g l2).bind fun c2 =>
  (rdA g 10 60 ((5 * l1) + 2)).bind fun v14 =>
  if ¬ w32 c2 = w32 v14 then
    some 0
  else
    (m_strengthOf N g l2).bind fun c20 =>
    (rdA g 10 60 ((5 * l1) + 3)).bind fun v32 =>
    if w32 c20 < w32 v32 then
      some 0
    else
      some 1
def m_lastsOf_j79 (N : Nat) (g : GS) (l3 : Int) (l4 : Int) (s0 : Int) (s1 : Int) : Option (Int × GS) :=
  (wrA g 24 6 s1 s0).bind fun g79 =>
  (wrA g79 24 6 4 l3).bind fun g86 =>
  (wrA g86 24 6 5 l4).bind fun g94 =>
  (m_lastsNow N g94).bind fun c96 =>
  some (c96.1, c96.2)
def m_lastsOf_j78 (N : Nat) (g : GS) (l3 : Int) (l4 : Int) (s0 : Int) : Option (Int × GS) :=
  m_lastsOf_j79 N g l3 l4 0 s0
def m_lastsOf (N : Nat) (g : GS) (l1 : Int) (l2 : Int) (l3 : Int) : Option (Int × GS) :=
  (rdA g 10 60 ((5 * l1) + 1)).bind fun v9 =>
  (rdA g 10 60 ((5 * l1) + 0)).bind fun v26 =>
  (wrA g 24 6 0 v26).bind fun g27 =>
  (rdA g27 10 60 ((5 * l1) + 2)).bind fun v42 =>
  (wrA g27 24 6 1 v42).bind fun g43 =>
  (m_strengthOf N g43 l2).bind fun c51 =>
  (wrA g43 24 6 2 c51).bind fun g54 =>
  if ¬ w32 v9 = w32 1 then
    m_lastsOf_j78 N g54 l3 v9 3
  else
    (m_isRain g54 l3).bind fun c68 =>
    if w32 c68 = 0 then
      m_lastsOf_j78 N g54 l3 v9 3
    else
      m_lastsOf_j79 N g54 l3 v9 1 3
def m_beginOf_j121 (N : Nat) (g : GS) (l1 : Int) (l4 : Int) (s0 : Int) : Option ((Int × Int) ⊕ Int) :=
  some (.inl (s0, (l4 + 1)))
def m_beginOf_b56 (N : Nat) (g : GS) (l1 : Int) (l3 : Int) (l4 : Int) : Option ((Int × Int) ⊕ Int) :=
  if w32 (gI g 933 0) ≤ w32 l4 then
    outR (some l3)
  else
    (rdA g 10 60 ((5 * l1) + 4)).bind fun v74 =>
    if ¬ w32 (i_and (i_shr v74 l4) 1) = 0 then
      (rdA g 32 12 l4).bind fun v92 =>
      if ¬ w32 v92 = w32 (-1) then
        (rdA g 32 12 l4).bind fun v105 =>
        if w32 v105 ≤ w32 l3 then
          m_beginOf_j121 N g l1 l4 l3
        else
          (rdA g 32 12 l4).bind fun v116 =>
          m_beginOf_j121 N g l1 l4 v116
      else
        outR (some (-1))
    else
      some (.inl (l3, (l4 + 1)))
def m_beginOf_j46 (N : Nat) (g : GS) (l1 : Int) (l2 : Int) (l4 : Int) (s0 : Int) : Option ((Int × Int) ⊕ (Int)) :=
  some (.inl (s0, (l4 + 1)))
def m_beginOf_j45 (N : Nat) (g : GS) (l1 : Int) (l2 : Int) (l3 : Int) (l4 : Int) : Option ((Int × Int) ⊕ (Int)) :=
  m_beginOf_j46 N g l1 l2 l4 l3
def m_beginOf_b5 (N : Nat) (g : GS) (l1 : Int) (l2 : Int) (l3 : Int) (l4 : Int) : Option ((Int × Int) ⊕ (Int)) :=
  if w32 (gI g 932 0) ≤ w32 l4 then
    some (.inr l3)
  else
    if ¬ w32 (i_and (i_shr l2 l4) 1) = w32 1 then
      m_beginOf_j45 N g l1 l2 l3 l4
    else
      (rdA g 31 4 l4).bind fun v30 =>
      if w32 v30 ≤ w32 l3 then
        m_beginOf_j45 N g l1 l2 l3 l4
      else
        (rdA g 31 4 l4).bind fun v41 =>
        m_beginOf_j46 N g l1 l2 l4 v41
def m_beginOf (N : Nat) (g : GS) (l1 : Int) (l2 : Int) : Option Int :=
  (loopN (fun s => m_beginOf_b5 N g l1 l2 s.1 s.2) N (0, 0)).bind fun t3 =>
  loopN (fun s => m_beginOf_b56 N g l1 s.1 s.2) N (t3, 0)
def m_rainIn_j26 (N : Nat) (g : GS) (l2 : Int) (l4 : Int) (s0 : Int) (s1 : Int) : Option ((Int × Int) ⊕ Int) :=
  some (.inl ((s1 + s0), (l4 + 1)))
def m_rainIn_b5 (N : Nat) (g : GS) (l2 : Int) (l3 : Int) (l4 : Int) : Option ((Int × Int) ⊕ Int) :=
  if w32 l2 ≤ w32 l4 then
    outR (some l3)
  else
    (m_isRain g l4).bind fun c15 =>
    if w32 c15 = 0 then
      m_rainIn_j26 N g l2 l4 0 l3
    else
      m_rainIn_j26 N g l2 l4 1 l3
def m_rainIn (N : Nat) (g : GS) (l1 : Int) (l2 : Int) : Option Int :=
  loopN (fun s => m_rainIn_b5 N g l2 s.1 s.2) N (0, l1)
def m_draws (g : GS) : Option (Int × GS) :=
  some ((i_rem (i_and (i_shr (gI (sI g 968 0 (((gI g 968 0) * 1103515245) + 12345)) 968 0) 16) 32767) 16), (sI g 968 0 (((gI g 968 0) * 1103515245) + 12345)))
def m_goes_j329 (N : Nat) (g : GS) (l1 : Int) (l2 : Int) (l3 : Int) (l4 : Int) (l5 : Int) (l6 : Int) (l7 : Int) (l8 : Int) (s0 : Int) (s1 : Int) (s2 : Int) : Option ((GS × Int) ⊕ (GS)) :=
  (wrA g 33 4 s2 (s1 + s0)).bind fun g330 =>
  some (.inl (g330, (l8 + 1)))
def m_goes_b245 (N : Nat) (l1 : Int) (l2 : Int) (l3 : Int) (l4 : Int) (l5 : Int) (l6 : Int) (l7 : Int) (g : GS) (l8 : Int) : Option ((GS × Int) ⊕ (GS)) :=
  if w32 (gI g 932 0) ≤ w32 l8 then
    some (.inr g)
  else
    if ¬ w32 (i_and (i_shr l5 l8) 1) = 0 then
      (wrA g 31 4 l8 (l6 + l7)).bind fun g278 =>
      (rdA g278 34 4 l8).bind fun v286 =>
      (wrA g278 34 4 l8 (v286 + l7)).bind fun g290 =>
      (rdA g290 33 4 l8).bind fun v298 =>
      (rdA g290 10 60 ((5 * l4) + 1)).bind fun v309 =>
      if ¬ w32 v309 = w32 1 then
        m_goes_j329 N g290 l1 l2 l3 l4 l5 l6 l7 l8 0 v298 l8
      else
        (m_rainIn N g290 l6 (l6 + l7)).bind fun c322 =>
        m_goes_j329 N g290 l1 l2 l3 l4 l5 l6 l7 l8 c322 v298 l8
    else
      some (.inl (g, (l8 + 1)))
def m_goes_j241 (N : Nat) (g : GS) (l1 : Int) (l3 : Int) (l4 : Int) (l5 : Int) (l6 : Int) (l7 : Int) (s0 : Int) : Option ((GS × Int × Int) ⊕ (Int × GS)) :=
  (loopN (fun s => m_goes_b245 N l1 s0 l3 l4 l5 l6 l7 s.1 s.2) N (g, 0)).bind fun t1 =>
  some (.inl (t1, s0, (l3 + 1)))
def m_goes_j188 (N : Nat) (g : GS) (l1 : Int) (l2 : Int) (l3 : Int) (l4 : Int) (l5 : Int) (l6 : Int) (l7 : Int) : Option ((GS × Int × Int) ⊕ (Int × GS)) :=
  (rdA g 35 12 l4).bind fun v196 =>
  (wrA g 30 12 l3 (l6 + (l7 + v196))).bind fun g210 =>
  (wrA g210 32 12 l4 (l6 + (l7 + v196))).bind fun g222 =>
  if w32 (l6 + (l7 + v196)) ≤ w32 l2 then
    m_goes_j241 N g222 l1 l3 l4 l5 l6 (l7 + v196) l2
  else
    m_goes_j241 N g222 l1 l3 l4 l5 l6 (l7 + v196) (l6 + (l7 + v196))
def m_goes_j117 (N : Nat) (g : GS) (l1 : Int) (l2 : Int) (l3 : Int) (l4 : Int) (l5 : Int) (s0 : Int) : Option ((GS × Int × Int) ⊕ (Int × GS)) :=
  (wrA g 29 12 l3 s0).bind fun g126 =>
  (wrA g126 30 12 l3 (-1)).bind fun g133 =>
  if ¬ w32 s0 = w32 (-1) then
    (m_lastsOf N g133 l4 l5 s0).bind fun c150 =>
    if w32 l1 = 0 then
      m_goes_j188 N c150.2 l1 l2 l3 l4 l5 s0 c150.1
    else
      (m_draws c150.2).bind fun c160 =>
      (rdA c160.2 18 5 2).bind fun v168 =>
      if w32 v168 ≤ w32 c160.1 then
        m_goes_j188 N c160.2 l1 l2 l3 l4 l5 s0 c150.1
      else
        m_goes_j188 N (sI c160.2 958 0 ((gI c160.2 958 0) + 1)) l1 l2 l3 l4 l5 s0 (c150.1 * 2)
  else
    some (.inl (g133, l2, (l3 + 1)))
def m_goes_b64 (N : Nat) (l1 : Int) (g : GS) (l2 : Int) (l3 : Int) : Option ((GS × Int × Int) ⊕ (Int × GS)) :=
  if w32 (gI g 949 0) ≤ w32 l3 then
    outR (some (l2, g))
  else
    (rdA g 26 24 (2 * l3)).bind fun v79 =>
    (rdA g 26 24 ((2 * l3) + 1)).bind fun v91 =>
    (m_mayDo N g v79 v91).bind fun c99 =>
    if w32 c99 = 0 then
      m_goes_j117 N g l1 l2 l3 v79 v91 (-1)
    else
      (m_beginOf N g v79 v91).bind fun c110 =>
      m_goes_j117 N g l1 l2 l3 v79 v91 c110
def m_goes_b36 (N : Nat) (l1 : Int) (g : GS) (l2 : Int) : Option ((GS × Int) ⊕ (GS)) :=
  if w32 12 ≤ w32 l2 then
    some (.inr g)
  else
    (wrA g 32 12 l2 (-1)).bind fun g48 =>
    some (.inl (g48, (l2 + 1)))
def m_goes_b2 (N : Nat) (l1 : Int) (g : GS) (l2 : Int) : Option ((GS × Int) ⊕ (GS)) :=
  if w32 4 ≤ w32 l2 then
    some (.inr g)
  else
    (wrA g 31 4 l2 0).bind fun g13 =>
    (wrA g13 33 4 l2 0).bind fun g20 =>
    (wrA g20 34 4 l2 0).bind fun g27 =>
    some (.inl (g27, (l2 + 1)))
def m_goes (N : Nat) (g : GS) (l1 : Int) : Option (Int × GS) :=
  (loopN (fun s => m_goes_b2 N l1 s.1 s.2) N (g, 0)).bind fun t3 =>
  (loopN (fun s => m_goes_b36 N l1 s.1 s.2) N (t3, 0)).bind fun t4 =>
  loopN (fun s => m_goes_b64 N l1 s.1 s.2.1 s.2.2) N ((sI t4 958 0 0), 0, 0)
def m_wetAll_b4 (N : Nat) (g : GS) (l1 : Int) (l2 : Int) : Option ((Int × Int) ⊕ Int) :=
  if w32 (gI g 932 0) ≤ w32 l2 then
    outR (some l1)
  else
    (rdA g 33 4 l2).bind fun v18 =>
    some (.inl ((l1 + v18), (l2 + 1)))
def m_wetAll (N : Nat) (g : GS) : Option Int :=
  loopN (fun s => m_wetAll_b4 N g s.1 s.2) N (0, 0)
def m_line (N : Nat) (g : GS) (l1 : Int) (l2 : Int) : Option (Int × GS) :=
  (m_isLine (sI g 900 0 0) l1 1).bind fun c8 =>
  if w32 c8.1 = 0 then
    some (0, c8.2)
  else
    (m_within l2 0 4).bind fun c18 =>
    (m_may c8.2 c18 2 1).bind fun c23 =>
    if ¬ w32 c23.1 = 0 then
      if w32 2 ≤ w32 l2 then
        (m_goes N c23.2 0).bind fun c49 =>
        if ¬ w32 l2 = w32 2 then
          if ¬ w32 l2 = w32 3 then
            (rdA c49.2 30 12 l1).bind fun v95 =>
            some (v95, c49.2)
          else
            (rdA c49.2 29 12 l1).bind fun v86 =>
            some (v86, c49.2)
        else
          (rdA c49.2 29 12 l1).bind fun v63 =>
          if ¬ w32 v63 = w32 (-1) then
            some (0, c49.2)
          else
            some (1, c49.2)
      else
        (rdA c23.2 26 24 ((2 * l1) + l2)).bind fun v45 =>
        some (v45, c23.2)
    else
      some (0, c23.2)
def m_span (N : Nat) (g : GS) : Option (Int × GS) :=
  (m_goes N (sI g 900 0 0) 0).bind fun c7 =>
  some (c7.1, c7.2)
def m_wet (N : Nat) (g : GS) (l1 : Int) : Option (Int × GS) :=
  (m_isPerson (sI g 900 0 0) l1 1).bind fun c8 =>
  if ¬ w32 c8.1 = 0 then
    (m_goes N c8.2 0).bind fun c18 =>
    (rdA c18.2 33 4 l1).bind fun v27 =>
    some (v27, c18.2)
  else
    some (0, c8.2)
def m_idle (N : Nat) (g : GS) (l1 : Int) : Option (Int × GS) :=
  (m_isPerson (sI g 900 0 0) l1 1).bind fun c8 =>
  if ¬ w32 c8.1 = 0 then
    (m_goes N c8.2 0).bind fun c18 =>
    (rdA c18.2 34 4 l1).bind fun v26 =>
    some ((c18.1 - v26), c18.2)
  else
    some (0, c8.2)
def m_umbrella_b17 (N : Nat) (g : GS) (l1 : Int) (l2 : Int) (l3 : Int) : Option ((Int × Int × Int) ⊕ (Int × GS)) :=
  if w32 (gI g 932 0) ≤ w32 l3 then
    outR (some (l1, g))
  else
    (rdA g 33 4 l3).bind fun v30 =>
    if w32 l2 < w32 v30 then
      (rdA g 33 4 l3).bind fun v45 =>
      some (.inl (l3, v45, (l3 + 1)))
    else
      some (.inl (l1, l2, (l3 + 1)))
def m_umbrella (N : Nat) (g : GS) : Option (Int × GS) :=
  (m_goes N (sI g 900 0 0) 0).bind fun c7 =>
  loopN (fun s => m_umbrella_b17 N c7.2 s.1 s.2.1 s.2.2) N ((-1), 0, 0)
def m_slackOf_j57 (N : Nat) (g : GS) (l1 : Int) (l3 : Int) : Option (Int × GS) :=
  (wrA g 35 12 l1 0).bind fun g63 =>
  some (l3, g63)
def m_slackOf_b27 (N : Nat) (l1 : Int) (l2 : Int) (g : GS) (l3 : Int) : Option ((GS × Int) ⊕ (GS × Int)) :=
  if w32 99 ≤ w32 l3 then
    some (.inr (g, l3))
  else
    (m_goes N g 0).bind fun c35 =>
    if w32 l2 < w32 c35.1 then
      some (.inr (c35.2, l3))
    else
      (wrA c35.2 35 12 l1 ((l3 + 1) + 1)).bind fun g53 =>
      some (.inl (g53, (l3 + 1)))
def m_slackOf (N : Nat) (g : GS) (l1 : Int) : Option (Int × GS) :=
  (m_goes N g 0).bind fun c2 =>
  (rdA c2.2 32 12 l1).bind fun v11 =>
  if ¬ w32 v11 = w32 (-1) then
    (wrA c2.2 35 12 l1 1).bind fun g26 =>
    (loopN (fun s => m_slackOf_b27 N l1 c2.1 s.1 s.2) N (g26, 0)).bind fun t1 =>
    m_slackOf_j57 N t1.1 l1 t1.2
  else
    some ((-1), c2.2)
def m_slack (N : Nat) (g : GS) (l1 : Int) : Option (Int × GS) :=
  (m_isDeed (sI g 900 0 0) l1 1).bind fun c8 =>
  if ¬ w32 c8.1 = 0 then
    (m_slackOf N c8.2 l1).bind fun c18 =>
    some (c18.1, c18.2)
  else
    some (0, c8.2)
def m_urgent_j33 (N : Nat) (g : GS) (l2 : Int) (s0 : Int) (s1 : Int) : Option ((GS × Int × Int) ⊕ (Int × GS)) :=
  some (.inl (g, (i_or s1 s0), (l2 + 1)))
def m_urgent_b9 (N : Nat) (g : GS) (l1 : Int) (l2 : Int) : Option ((GS × Int × Int) ⊕ (Int × GS)) :=
  if w32 (gI g 933 0) ≤ w32 l2 then
    outR (some (l1, g))
  else
    (m_slackOf N g l2).bind fun c20 =>
    if ¬ w32 c20.1 = 0 then
      m_urgent_j33 N c20.2 l2 0 l1
    else
      m_urgent_j33 N c20.2 l2 (i_shl 1 l2) l1
def m_urgent (N : Nat) (g : GS) : Option (Int × GS) :=
  loopN (fun s => m_urgent_b9 N s.1 s.2.1 s.2.2) N ((sI g 900 0 0), 0, 0)
def m_ahead_j59 (N : Nat) (g : GS) (l3 : Int) (s0 : Int) (s1 : Int) : Option ((Int × Int) ⊕ (Int × GS)) :=
  some (.inl ((i_or s1 s0), (l3 + (-1))))
def m_ahead_b31 (N : Nat) (g : GS) (l2 : Int) (l3 : Int) : Option ((Int × Int) ⊕ (Int × GS)) :=
  if w32 l3 < 0 then
    outR (some (l2, g))
  else
    if ¬ w32 (i_and (i_shr l2 l3) 1) = w32 1 then
      m_ahead_j59 N g l3 0 l2
    else
      (rdA g 10 60 ((5 * l3) + 4)).bind fun v54 =>
      m_ahead_j59 N g l3 v54 l2
def m_ahead (N : Nat) (g : GS) (l1 : Int) : Option (Int × GS) :=
  (m_isDeed (sI g 900 0 0) l1 1).bind fun c8 =>
  if ¬ w32 c8.1 = 0 then
    (rdA c8.2 10 60 ((5 * l1) + 4)).bind fun v25 =>
    loopN (fun s => m_ahead_b31 N c8.2 s.1 s.2) N (v25, (l1 - 1))
  else
    some (0, c8.2)
def m_chain_j75 (N : Nat) (g : GS) (l1 : Int) (l2 : Int) (l4 : Int) (s0 : Int) : Option ((Int × Int) ⊕ (Int)) :=
  some (.inl (s0, (l4 + 1)))
def m_chain_j74 (N : Nat) (g : GS) (l1 : Int) (l2 : Int) (l3 : Int) (l4 : Int) : Option ((Int × Int) ⊕ (Int)) :=
  m_chain_j75 N g l1 l2 l4 l3
def m_chain_b28 (N : Nat) (g : GS) (l1 : Int) (l2 : Int) (l3 : Int) (l4 : Int) : Option ((Int × Int) ⊕ (Int)) :=
  if w32 l2 ≤ w32 l4 then
    some (.inr l3)
  else
    (rdA g 10 60 ((5 * l2) + 4)).bind fun v43 =>
    if ¬ w32 (i_and (i_shr v43 l4) 1) = w32 1 then
      m_chain_j74 N g l1 l2 l3 l4
    else
      (rdA g 36 12 l4).bind fun v59 =>
      if w32 v59 ≤ w32 l3 then
        m_chain_j74 N g l1 l2 l3 l4
      else
        (rdA g 36 12 l4).bind fun v70 =>
        m_chain_j75 N g l1 l2 l4 v70
def m_chain_b18 (N : Nat) (l1 : Int) (g : GS) (l2 : Int) : Option ((GS × Int) ⊕ (GS)) :=
  if w32 l1 < w32 l2 then
    some (.inr g)
  else
    (loopN (fun s => m_chain_b28 N g l1 l2 s.1 s.2) N (0, 0)).bind fun t1 =>
    (rdA g 10 60 ((5 * l2) + 0)).bind fun v96 =>
    (wrA g 36 12 l2 (v96 + t1)).bind fun g99 =>
    some (.inl (g99, (l2 + 1)))
def m_chain (N : Nat) (g : GS) (l1 : Int) : Option (Int × GS) :=
  (m_isDeed (sI g 900 0 0) l1 1).bind fun c8 =>
  if ¬ w32 c8.1 = 0 then
    (loopN (fun s => m_chain_b18 N l1 s.1 s.2) N (c8.2, 0)).bind fun t2 =>
    (rdA t2 36 12 l1).bind fun v111 =>
    some (v111, t2)
  else
    some (0, c8.2)
def m_plansOn_F_b327 (N : Nat) (R_plansOn : GS → Int → Int → Int → Int → Option GS) (l1 : Int) (l2 : Int) (l3 : Int) (l4 : Int) (l5 : Int) (l6 : Int) (g : GS) (l10 : Int) : Option ((GS × Int) ⊕ (GS)) :=
  if w32 4 ≤ w32 l10 then
    some (.inr g)
  else
    (rdA g 37 24 ((4 * l1) + l10)).bind fun v349 =>
    (wrA g 31 4 l10 v349).bind fun g350 =>
    some (.inl (g350, (l10 + 1)))
def m_plansOn_F_j316 (N : Nat) (R_plansOn : GS → Int → Int → Int → Int → Option GS) (g : GS) (l1 : Int) (l2 : Int) (l3 : Int) (l4 : Int) (l5 : Int) (l6 : Int) (l9 : Int) (s0 : Int) (s1 : Int) (s2 : Int) : Option ((GS × Int) ⊕ (GS)) :=
  (R_plansOn g s2 s1 s0 (l4 + l9)).bind fun c321 =>
  (loopN (fun s => m_plansOn_F_b327 N R_plansOn l1 l2 l3 l4 l5 l6 s.1 s.2) N (c321, 0)).bind fun t1 =>
  some (.inl (t1, (l6 + 1)))
def m_plansOn_F_b228 (N : Nat) (R_plansOn : GS → Int → Int → Int → Int → Option GS) (l1 : Int) (l2 : Int) (l3 : Int) (l4 : Int) (l5 : Int) (l6 : Int) (l8 : Int) (l9 : Int) (g : GS) (l10 : Int) : Option ((GS × Int) ⊕ (GS)) :=
  if w32 (gI g 932 0) ≤ w32 l10 then
    some (.inr g)
  else
    if ¬ w32 (i_and (i_shr l6 l10) 1) = w32 1 then
      some (.inl (g, (l10 + 1)))
    else
      (wrA g 31 4 l10 l8).bind fun g256 =>
      some (.inl (g256, (l10 + 1)))
def m_plansOn_F_j223 (N : Nat) (R_plansOn : GS → Int → Int → Int → Int → Option GS) (g : GS) (l1 : Int) (l2 : Int) (l3 : Int) (l4 : Int) (l5 : Int) (l6 : Int) (l8 : Int) (s0 : Int) : Option ((GS × Int) ⊕ (GS)) :=
  (loopN (fun s => m_plansOn_F_b228 N R_plansOn l1 l2 l3 l4 l5 l6 l8 s0 s.1 s.2) N (g, 0)).bind fun t2 =>
  (wrA t2 32 12 l5 l8).bind fun g271 =>
  (wrA g271 39 10 (2 * l1) l5).bind fun g281 =>
  (wrA g281 39 10 ((2 * l1) + 1) l6).bind fun g293 =>
  if w32 l8 ≤ w32 l3 then
    m_plansOn_F_j316 N R_plansOn g293 l1 l2 l3 l4 l5 l6 s0 l3 (i_or l2 (i_shl 1 l5)) (l1 + 1)
  else
    m_plansOn_F_j316 N R_plansOn g293 l1 l2 l3 l4 l5 l6 s0 l8 (i_or l2 (i_shl 1 l5)) (l1 + 1)
def m_plansOn_F_b139 (N : Nat) (R_plansOn : GS → Int → Int → Int → Int → Option GS) (l1 : Int) (l2 : Int) (l3 : Int) (l4 : Int) (l5 : Int) (g : GS) (l6 : Int) : Option ((GS × Int) ⊕ (GS)) :=
  if w32 (i_shl 1 (gI g 932 0)) ≤ w32 l6 then
    some (.inr g)
  else
    (m_mayDo N g l5 l6).bind fun c155 =>
    if ¬ w32 c155 = 0 then
      (m_beginOf N g l5 l6).bind fun c169 =>
      (m_lastsOf N g l5 l6 c169).bind fun c183 =>
      (rdA c183.2 10 60 ((5 * l5) + 1)).bind fun v199 =>
      if ¬ w32 v199 = w32 1 then
        m_plansOn_F_j223 N R_plansOn c183.2 l1 l2 l3 l4 l5 l6 (c169 + c183.1) 0
      else
        (m_onesOf N c183.2 l6).bind fun c207 =>
        (m_rainIn N c183.2 c169 (c169 + c183.1)).bind fun c215 =>
        m_plansOn_F_j223 N R_plansOn c183.2 l1 l2 l3 l4 l5 l6 (c169 + c183.1) (c207 * c215)
    else
      some (.inl (g, (l6 + 1)))
def m_plansOn_F_b96 (N : Nat) (R_plansOn : GS → Int → Int → Int → Int → Option GS) (l1 : Int) (l2 : Int) (l3 : Int) (l4 : Int) (g : GS) (l5 : Int) : Option ((GS × Int) ⊕ GS) :=
  if w32 (gI g 933 0) ≤ w32 l5 then
    outR (some g)
  else
    if w32 (i_and (i_shr l2 l5) 1) = w32 1 then
      some (.inl (g, (l5 + 1)))
    else
      (rdA g 10 60 ((5 * l5) + 4)).bind fun v125 =>
      if w32 (i_and v125 (i_xor l2 (-1))) = 0 then
        (loopN (fun s => m_plansOn_F_b139 N R_plansOn l1 l2 l3 l4 l5 s.1 s.2) N (g, 1)).bind fun t4 =>
        some (.inl (t4, (l5 + 1)))
      else
        some (.inl (g, (l5 + 1)))
def m_plansOn_F_b63 (N : Nat) (R_plansOn : GS → Int → Int → Int → Int → Option GS) (l1 : Int) (l2 : Int) (l3 : Int) (l4 : Int) (g : GS) (l5 : Int) : Option ((GS × Int) ⊕ (GS)) :=
  if w32 4 ≤ w32 l5 then
    some (.inr g)
  else
    (rdA g 31 4 l5).bind fun v85 =>
    (wrA g 37 24 ((4 * l1) + l5) v85).bind fun g86 =>
    some (.inl (g86, (l5 + 1)))
def m_plansOn_F_j26 (N : Nat) (R_plansOn : GS → Int → Int → Int → Int → Option GS) (g : GS) (l1 : Int) (l2 : Int) (l3 : Int) (l4 : Int) : Option GS :=
  if ¬ w32 l1 = w32 (gI g 933 0) then
    (loopN (fun s => m_plansOn_F_b63 N R_plansOn l1 l2 l3 l4 s.1 s.2) N (g, 0)).bind fun t5 =>
    loopN (fun s => m_plansOn_F_b96 N R_plansOn l1 l2 l3 l4 s.1 s.2) N (t5, 0)
  else
    (m_copies N 39 10 38 10 (sI (sI g 963 0 l3) 964 0 l4) 10).bind fun c56 =>
    some c56
def m_plansOn_F (N : Nat) (R_plansOn : GS → Int → Int → Int → Int → Option GS) (g : GS) (l1 : Int) (l2 : Int) (l3 : Int) (l4 : Int) : Option GS :=
  if w32 (gI g 963 0) < w32 l3 then
    some g
  else
    if ¬ w32 l3 = w32 (gI g 963 0) then
      m_plansOn_F_j26 N R_plansOn g l1 l2 l3 l4
    else
      if w32 l4 < w32 (gI g 964 0) then
        m_plansOn_F_j26 N R_plansOn g l1 l2 l3 l4
      else
        some g
def m_plansOn_R (N : Nat) : Nat → GS → Int → Int → Int → Int → Option GS
  | 0 => fun _ _ _ _ _ => none
  | d + 1 => m_plansOn_F N (m_plansOn_R N d)
def m_plansOn (N : Nat) : GS → Int → Int → Int → Int → Option GS := m_plansOn_R N 16
def m_findSoonest_b2 (N : Nat) (g : GS) (l1 : Int) : Option ((GS × Int) ⊕ (GS)) :=
  if w32 4 ≤ w32 l1 then
    some (.inr g)
  else
    (wrA g 31 4 l1 0).bind fun g13 =>
    some (.inl (g13, (l1 + 1)))
def m_findSoonest (N : Nat) (g : GS) : Option GS :=
  (loopN (fun s => m_findSoonest_b2 N s.1 s.2) N (g, 0)).bind fun t1 =>
  (m_plansOn N (sI (sI t1 963 0 1000000) 964 0 0) 0 0 0 0).bind fun c37 =>
  some c37
def m_soonest_j34 (N : Nat) (g : GS) (l1 : Int) (s0 : Int) : Option (Int × GS) :=
  (m_may g s0 2 2).bind fun c36 =>
  if ¬ w32 c36.1 = 0 then
    (m_findSoonest N c36.2).bind fun c45 =>
    if ¬ w32 (gI c45 963 0) = w32 1000000 then
      if ¬ w32 l1 = 0 then
        some ((gI c45 964 0), c45)
      else
        some ((gI c45 963 0), c45)
    else
      some ((-1), c45)
  else
    some (0, c36.2)
def m_soonest (N : Nat) (g : GS) (l1 : Int) : Option (Int × GS) :=
  (m_within l1 0 1).bind fun c9 =>
  (m_may (sI g 900 0 0) c9 1 1).bind fun c14 =>
  if w32 c14.1 = 0 then
    some (0, c14.2)
  else
    if w32 5 < w32 (gI c14.2 933 0) then
      m_soonest_j34 N c14.2 l1 0
    else
      m_soonest_j34 N c14.2 l1 1
def m_first_j39 (N : Nat) (g : GS) (l1 : Int) (s0 : Int) : Option (Int × GS) :=
  (m_may g s0 2 2).bind fun c41 =>
  if ¬ w32 c41.1 = 0 then
    (m_findSoonest N c41.2).bind fun c50 =>
    if ¬ w32 (gI c50 963 0) = w32 1000000 then
      (rdA c50 38 10 (2 * l1)).bind fun v76 =>
      (rdA c50 38 10 ((2 * l1) + 1)).bind fun v87 =>
      some (((100 * v76) + v87), c50)
    else
      some ((-1), c50)
  else
    some (0, c41.2)
def m_first (N : Nat) (g : GS) (l1 : Int) : Option (Int × GS) :=
  (m_within l1 0 ((gI (sI g 900 0 0) 933 0) - 1)).bind fun c14 =>
  (m_may (sI g 900 0 0) c14 1 1).bind fun c19 =>
  if w32 c19.1 = 0 then
    some (0, c19.2)
  else
    if w32 5 < w32 (gI c19.2 933 0) then
      m_first_j39 N c19.2 l1 0
    else
      m_first_j39 N c19.2 l1 1
def m_broad_b4 (N : Nat) (g : GS) (l1 : Int) (l2 : Int) (l3 : Int) : Option ((Int × Int) ⊕ Int) :=
  if w32 (gI g 934 0) ≤ w32 l3 then
    outR (some l2)
  else
    (rdA g 12 6 l3).bind fun v23 =>
    some (.inl ((l2 + ((i_and (i_shr l1 l3) 1) * v23)), (l3 + 1)))
def m_broad (N : Nat) (g : GS) (l1 : Int) : Option Int :=
  loopN (fun s => m_broad_b4 N g l1 s.1 s.2) N (1, 0)
def m_sinkOf (N : Nat) (g : GS) (l1 : Int) (l2 : Int) (l3 : Int) : Option Int :=
  (rdA g 18 5 0).bind fun v5 =>
  (m_broad N g l2).bind fun c8 =>
  dvI c8 <|
  (rdA g 11 60 l1).bind fun v17 =>
  if w32 ((i_div v5 c8) - v17) ≤ 0 then
    some 0
  else
    some (((i_div v5 c8) - v17) * l3)
def m_isMinute (l0 : Int) : Option Int :=
  if w32 l0 < 0 then
    some 0
  else
    if w32 240 < w32 l0 then
      some 0
    else
      some 1
def m_isYard (l0 : Int) : Option Int :=
  if w32 l0 < 0 then
    some 0
  else
    if w32 60 ≤ w32 l0 then
      some 0
    else
      some 1
def m_sinks_j39 (N : Nat) (g : GS) (l1 : Int) (l2 : Int) (l3 : Int) (s0 : Int) : Option (Int × GS) :=
  (m_may g s0 1 1).bind fun c41 =>
  if ¬ w32 c41.1 = 0 then
    (m_sinkOf N c41.2 l1 l2 l3).bind fun c53 =>
    some (c53, c41.2)
  else
    some (0, c41.2)
def m_sinks_j38 (N : Nat) (g : GS) (l1 : Int) (l2 : Int) (l3 : Int) : Option (Int × GS) :=
  m_sinks_j39 N g l1 l2 l3 0
def m_sinks (N : Nat) (g : GS) (l1 : Int) (l2 : Int) (l3 : Int) : Option (Int × GS) :=
  (m_isYard l1).bind fun c7 =>
  if w32 c7 = 0 then
    m_sinks_j38 N (sI g 900 0 0) l1 l2 l3
  else
    if w32 l2 < 0 then
      m_sinks_j38 N (sI g 900 0 0) l1 l2 l3
    else
      if w32 (i_shl 1 (gI (sI g 900 0 0) 934 0)) ≤ w32 l2 then
        m_sinks_j38 N (sI g 900 0 0) l1 l2 l3
      else
        (m_isMinute l3).bind fun c28 =>
        if w32 c28 = 0 then
          m_sinks_j38 N (sI g 900 0 0) l1 l2 l3
        else
          m_sinks_j39 N (sI g 900 0 0) l1 l2 l3 1
def m_under_j96 (N : Nat) (g : GS) (l1 : Int) (l2 : Int) (l3 : Int) (l5 : Int) : Option ((Int × Int) ⊕ (Int × GS)) :=
  some (.inl (l5, (l5 + 1)))
def m_under_b52 (N : Nat) (g : GS) (l1 : Int) (l2 : Int) (l3 : Int) (l4 : Int) (l5 : Int) : Option ((Int × Int) ⊕ (Int × GS)) :=
  if w32 (i_shl 1 (gI g 934 0)) ≤ w32 l5 then
    outR (some (l4, g))
  else
    (m_sinkOf N g l1 l5 l2).bind fun c68 =>
    if w32 l3 < w32 c68 then
      some (.inl (l4, (l5 + 1)))
    else
      if w32 l4 = w32 (-1) then
        m_under_j96 N g l1 l2 l3 l5
      else
        (m_onesOf N g l5).bind fun c84 =>
        (m_onesOf N g l4).bind fun c90 =>
        if w32 c90 ≤ w32 c84 then
          some (.inl (l4, (l5 + 1)))
        else
          m_under_j96 N g l1 l2 l3 l5
def m_under_j36 (N : Nat) (g : GS) (l1 : Int) (l2 : Int) (l3 : Int) (s0 : Int) : Option (Int × GS) :=
  (m_may g s0 1 1).bind fun c38 =>
  if ¬ w32 c38.1 = 0 then
    loopN (fun s => m_under_b52 N c38.2 l1 l2 l3 s.1 s.2) N ((-1), 0)
  else
    some (0, c38.2)
def m_under_j35 (N : Nat) (g : GS) (l1 : Int) (l2 : Int) (l3 : Int) : Option (Int × GS) :=
  m_under_j36 N g l1 l2 l3 0
def m_under (N : Nat) (g : GS) (l1 : Int) (l2 : Int) (l3 : Int) : Option (Int × GS) :=
  (m_isYard l1).bind fun c7 =>
  if w32 c7 = 0 then
    m_under_j35 N (sI g 900 0 0) l1 l2 l3
  else
    (m_isMinute l2).bind fun c14 =>
    if w32 c14 = 0 then
      m_under_j35 N (sI g 900 0 0) l1 l2 l3
    else
      (m_within l3 0 9999).bind fun c25 =>
      if w32 c25 = 0 then
        m_under_j35 N (sI g 900 0 0) l1 l2 l3
      else
        m_under_j36 N (sI g 900 0 0) l1 l2 l3 1
def m_push_j117 (N : Nat) (g : GS) (l1 : Int) (l2 : Int) (l3 : Int) (l4 : Int) (l7 : Int) (l8 : Int) : Option ((Int × Int × Int) ⊕ (Int × Int)) :=
  some (.inl (l7, l8, (l7 + 1)))
def m_push_j89 (N : Nat) (g : GS) (l1 : Int) (l2 : Int) (l3 : Int) (l4 : Int) (l5 : Int) (l6 : Int) (l7 : Int) (s0 : Int) (s1 : Int) : Option ((Int × Int × Int) ⊕ (Int × Int)) :=
  (m_sinkOf N g l7 0 l3).bind fun c95 =>
  if w32 l5 = w32 (-1) then
    m_push_j117 N g l1 l2 l3 l4 l7 ((s1 * s0) + c95)
  else
    if w32 ((s1 * s0) + c95) < w32 l6 then
      m_push_j117 N g l1 l2 l3 l4 l7 ((s1 * s0) + c95)
    else
      some (.inl (l5, l6, (l7 + 1)))
def m_push_b64 (N : Nat) (g : GS) (l1 : Int) (l2 : Int) (l3 : Int) (l4 : Int) (l5 : Int) (l6 : Int) (l7 : Int) : Option ((Int × Int × Int) ⊕ (Int × Int)) :=
  if w32 60 ≤ w32 l7 then
    some (.inr (l5, l6))
  else
    if w32 l1 ≤ w32 l7 then
      m_push_j89 N g l1 l2 l3 l4 l5 l6 l7 (l7 - l1) l2
    else
      m_push_j89 N g l1 l2 l3 l4 l5 l6 l7 (l1 - l7) l2
def m_push_j45 (N : Nat) (g : GS) (l1 : Int) (l2 : Int) (l3 : Int) (l4 : Int) (s0 : Int) : Option (Int × GS) :=
  (m_may g s0 1 1).bind fun c47 =>
  if ¬ w32 c47.1 = 0 then
    (loopN (fun s => m_push_b64 N c47.2 l1 l2 l3 l4 s.1 s.2.1 s.2.2) N ((-1), 0, 0)).bind fun t1 =>
    if ¬ w32 l4 = 0 then
      some (t1.2, c47.2)
    else
      some (t1.1, c47.2)
  else
    some (0, c47.2)
def m_push_j44 (N : Nat) (g : GS) (l1 : Int) (l2 : Int) (l3 : Int) (l4 : Int) : Option (Int × GS) :=
  m_push_j45 N g l1 l2 l3 l4 0
def m_push (N : Nat) (g : GS) (l1 : Int) (l2 : Int) (l3 : Int) (l4 : Int) : Option (Int × GS) :=
  (m_isYard l1).bind fun c7 =>
  if w32 c7 = 0 then
    m_push_j44 N (sI g 900 0 0) l1 l2 l3 l4
  else
    (m_within l2 0 99).bind fun c17 =>
    if w32 c17 = 0 then
      m_push_j44 N (sI g 900 0 0) l1 l2 l3 l4
    else
      (m_isMinute l3).bind fun c24 =>
      if w32 c24 = 0 then
        m_push_j44 N (sI g 900 0 0) l1 l2 l3 l4
      else
        (m_within l4 0 1).bind fun c34 =>
        if w32 c34 = 0 then
          m_push_j44 N (sI g 900 0 0) l1 l2 l3 l4
        else
          m_push_j45 N (sI g 900 0 0) l1 l2 l3 l4 1
def m_least_j41 (N : Nat) (l5 : Int) (s0 : Int) : Option Int :=
  dvL l5 <|
  some (l_div s0 l5)
def m_least_b6 (N : Nat) (l0 : Int) (l2 : Int) (l4 : Int) (l5 : Int) (l7 : Int) : Option ((Int × Int) ⊕ (Int)) :=
  if w32 (l_cmp l7 0) = 0 then
    some (.inr l5)
  else
    dvL l7 <|
    some (.inl (l7, (l_rem l5 l7)))
def m_least (N : Nat) (l0 : Int) (l2 : Int) (l4 : Int) : Option Int :=
  (loopN (fun s => m_least_b6 N l0 l2 l4 s.1 s.2) N (l0, l2)).bind fun t1 =>
  if ¬ w32 l4 = 0 then
    m_least_j41 N t1 l2
  else
    m_least_j41 N t1 l0
def m_power_b5 (N : Nat) (l0 : Int) (l2 : Int) (l3 : Int) (l5 : Int) : Option ((Int × Int) ⊕ Int) :=
  if w32 l2 ≤ w32 l5 then
    outR (some l3)
  else
    some (.inl ((l3 * l0), (l5 + 1)))
def m_power (N : Nat) (l0 : Int) (l2 : Int) : Option Int :=
  loopN (fun s => m_power_b5 N l0 l2 s.1 s.2) N (1, 0)
def m_easeOf (g : GS) (l1 : Int) (l2 : Int) : Option Int :=
  (rdA g 13 8 l1).bind fun v8 =>
  if 0 ≤ w32 ((2 * l2) - v8) then
    if w32 ((2 * l2) - v8) ≤ w32 16 then
      some ((2 * l2) - v8)
    else
      some 16
  else
    some 0
def m_stuck (N : Nat) (g : GS) (l1 : Int) (l2 : Int) (l3 : Int) : Option Int :=
  (m_easeOf g l1 l3).bind fun c5 =>
  (m_power N (w32 (16 - c5)) l2).bind fun c11 =>
  some c11
def m_tries_j58 (N : Nat) (g : GS) : Option (Int × GS) :=
  some (0, g)
def m_tries_j50 (N : Nat) (g : GS) (l1 : Int) (l2 : Int) (l3 : Int) (l4 : Int) (s0 : Int) : Option (Int × GS) :=
  (m_may g s0 2 1).bind fun c52 =>
  if ¬ w32 c52.1 = 0 then
    (m_power N 16 l2).bind fun c64 =>
    (m_stuck N c52.2 l1 l2 l3).bind fun c71 =>
    (m_power N 16 l2).bind fun c79 =>
    (m_least N (c64 - c71) c79 l4).bind fun c84 =>
    some (c84, c52.2)
  else
    m_tries_j58 N c52.2
def m_tries_j49 (N : Nat) (g : GS) (l1 : Int) (l2 : Int) (l3 : Int) (l4 : Int) : Option (Int × GS) :=
  m_tries_j50 N g l1 l2 l3 l4 0
def m_tries (N : Nat) (g : GS) (l1 : Int) (l2 : Int) (l3 : Int) (l4 : Int) : Option (Int × GS) :=
  (m_isNut (sI g 900 0 0) l1 1).bind fun c8 =>
  if w32 c8.1 = 0 then
    m_tries_j58 N c8.2
  else
    (m_within l2 0 7).bind fun c19 =>
    if w32 c19 = 0 then
      m_tries_j49 N c8.2 l1 l2 l3 l4
    else
      (m_within l3 0 18).bind fun c29 =>
      if w32 c29 = 0 then
        m_tries_j49 N c8.2 l1 l2 l3 l4
      else
        (m_within l4 0 1).bind fun c39 =>
        if w32 c39 = 0 then
          m_tries_j49 N c8.2 l1 l2 l3 l4
        else
          m_tries_j50 N c8.2 l1 l2 l3 l4 1
def m_half_b34 (N : Nat) (g : GS) (l1 : Int) (l2 : Int) (l3 : Int) : Option ((Int) ⊕ (Int × GS)) :=
  if w32 7 < w32 l3 then
    outR (some ((-1), g))
  else
    (m_stuck N g l1 l3 l2).bind fun c47 =>
    (m_power N 16 l3).bind fun c55 =>
    if 0 < w32 (l_cmp (2 * c47) c55) then
      some (.inl (l3 + 1))
    else
      outR (some (l3, g))
def m_half (N : Nat) (g : GS) (l1 : Int) (l2 : Int) : Option (Int × GS) :=
  (m_isNut (sI g 900 0 0) l1 1).bind fun c8 =>
  if w32 c8.1 = 0 then
    some (0, c8.2)
  else
    (m_within l2 0 18).bind fun c19 =>
    (m_may c8.2 c19 2 1).bind fun c24 =>
    if ¬ w32 c24.1 = 0 then
      loopN (fun s => m_half_b34 N c24.2 l1 l2 s) N 1
    else
      some (0, c24.2)
def m_easiest_j55 (N : Nat) (g : GS) (l1 : Int) (l3 : Int) : Option ((Int × Int) ⊕ (Int × GS)) :=
  some (.inl (l3, (l3 + 1)))
def m_easiest_b27 (N : Nat) (g : GS) (l1 : Int) (l2 : Int) (l3 : Int) : Option ((Int × Int) ⊕ (Int × GS)) :=
  if w32 (gI g 935 0) ≤ w32 l3 then
    outR (some (l2, g))
  else
    if w32 l2 = w32 (-1) then
      m_easiest_j55 N g l1 l3
    else
      (m_easeOf g l3 l1).bind fun c43 =>
      (m_easeOf g l2 l1).bind fun c49 =>
      if w32 c43 ≤ w32 c49 then
        some (.inl (l2, (l3 + 1)))
      else
        m_easiest_j55 N g l1 l3
def m_easiest (N : Nat) (g : GS) (l1 : Int) : Option (Int × GS) :=
  (m_within l1 0 18).bind fun c10 =>
  (m_may (sI g 900 0 0) c10 1 1).bind fun c15 =>
  if ¬ w32 c15.1 = 0 then
    loopN (fun s => m_easiest_b27 N c15.2 l1 s.1 s.2) N ((-1), 0)
  else
    some (0, c15.2)
def m_meanOf_b17 (N : Nat) (g : GS) (l1 : Int) (l2 : Int) (l3 : Int) (l4 : Int) (l5 : Int) (l7 : Int) (l9 : Int) : Option ((Int × Int × Int) ⊕ (Int × Int)) :=
  if w32 l1 < w32 l9 then
    some (.inr (l5, l7))
  else
    some (.inl (((16 * l5) + ((l7 * (w32 l4)) * (w32 (l9 + l3)))), (l7 * (w32 (16 - l4))), (l9 + 1)))
def m_meanOf (N : Nat) (g : GS) (l1 : Int) (l2 : Int) (l3 : Int) : Option Int :=
  (rdA g 18 5 1).bind fun v5 =>
  (loopN (fun s => m_meanOf_b17 N g l1 l2 l3 v5 s.1 s.2.1 s.2.2) N (0, 1, 1)).bind fun t1 =>
  some (t1.1 + (t1.2 * (w32 (l1 + l2))))
def m_waits_j45 (N : Nat) (g : GS) (l1 : Int) (l2 : Int) (l3 : Int) (l4 : Int) (s0 : Int) : Option (Int × GS) :=
  (m_may g s0 1 1).bind fun c47 =>
  if ¬ w32 c47.1 = 0 then
    (m_meanOf N c47.2 l1 l2 l3).bind fun c59 =>
    (m_power N 16 l1).bind fun c66 =>
    (m_least N c59 c66 l4).bind fun c71 =>
    some (c71, c47.2)
  else
    some (0, c47.2)
def m_waits_j44 (N : Nat) (g : GS) (l1 : Int) (l2 : Int) (l3 : Int) (l4 : Int) : Option (Int × GS) :=
  m_waits_j45 N g l1 l2 l3 l4 0
def m_waits (N : Nat) (g : GS) (l1 : Int) (l2 : Int) (l3 : Int) (l4 : Int) : Option (Int × GS) :=
  (m_within l1 0 8).bind fun c10 =>
  if w32 c10 = 0 then
    m_waits_j44 N (sI g 900 0 0) l1 l2 l3 l4
  else
    (m_isMinute l2).bind fun c17 =>
    if w32 c17 = 0 then
      m_waits_j44 N (sI g 900 0 0) l1 l2 l3 l4
    else
      (m_isMinute l3).bind fun c24 =>
      if w32 c24 = 0 then
        m_waits_j44 N (sI g 900 0 0) l1 l2 l3 l4
      else
        (m_within l4 0 1).bind fun c34 =>
        if w32 c34 = 0 then
          m_waits_j44 N (sI g 900 0 0) l1 l2 l3 l4
        else
          m_waits_j45 N (sI g 900 0 0) l1 l2 l3 l4 1
def m_await_b40 (N : Nat) (g : GS) (l1 : Int) (l2 : Int) (l3 : Int) (l4 : Int) : Option ((Int × Int) ⊕ (Int × GS)) :=
  if w32 8 < w32 l4 then
    outR (some (l3, g))
  else
    (m_meanOf N g l4 l1 l2).bind fun c52 =>
    (m_meanOf N g l3 l1 l2).bind fun c59 =>
    (m_power N 16 (l4 - l3)).bind fun c69 =>
    if 0 ≤ w32 (l_cmp c52 (c59 * c69)) then
      some (.inl (l3, (l4 + 1)))
    else
      some (.inl (l4, (l4 + 1)))
def m_await_j25 (N : Nat) (g : GS) (l1 : Int) (l2 : Int) (s0 : Int) : Option (Int × GS) :=
  (m_may g s0 1 1).bind fun c27 =>
  if ¬ w32 c27.1 = 0 then
    loopN (fun s => m_await_b40 N c27.2 l1 l2 s.1 s.2) N (0, 1)
  else
    some (0, c27.2)
def m_await_j24 (N : Nat) (g : GS) (l1 : Int) (l2 : Int) : Option (Int × GS) :=
  m_await_j25 N g l1 l2 0
def m_await (N : Nat) (g : GS) (l1 : Int) (l2 : Int) : Option (Int × GS) :=
  (m_isMinute l1).bind fun c7 =>
  if w32 c7 = 0 then
    m_await_j24 N (sI g 900 0 0) l1 l2
  else
    (m_isMinute l2).bind fun c14 =>
    if w32 c14 = 0 then
      m_await_j24 N (sI g 900 0 0) l1 l2
    else
      m_await_j25 N (sI g 900 0 0) l1 l2 1
def m_crookedBy_j34 (g : GS) (l1 : Int) (s0 : Int) : Option Int :=
  if w32 (i_div l1 2) ≤ w32 s0 then
    some 0
  else
    some ((i_div l1 2) - s0)
def m_crookedBy_j14 (g : GS) (l1 : Int) (s0 : Int) : Option Int :=
  if w32 (l1 - s0) ≤ w32 s0 then
    m_crookedBy_j34 g l1 (l1 - s0)
  else
    m_crookedBy_j34 g l1 s0
def m_crookedBy (g : GS) (l1 : Int) (l2 : Int) (l3 : Int) : Option Int :=
  if w32 l3 ≤ w32 l2 then
    m_crookedBy_j14 g l1 (l2 - l3)
  else
    m_crookedBy_j14 g l1 (l3 - l2)
def m_crossOn_F_j82 (N : Nat) (R_crossOn : GS → Int → Int → Int → Int → Int → Option GS) (g : GS) (l1 : Int) (l2 : Int) (l3 : Int) (l4 : Int) (l5 : Int) (l6 : Int) (s0 : Int) (s1 : Int) (s2 : Int) (s3 : Int) (s4 : Int) : Option ((GS × Int) ⊕ GS) :=
  (R_crossOn g s4 s3 s2 (s1 + s0) ((10 * l5) + l6)).bind fun c91 =>
  some (.inl (c91, (l6 + 1)))
def m_crossOn_F_b35 (N : Nat) (R_crossOn : GS → Int → Int → Int → Int → Int → Option GS) (l1 : Int) (l2 : Int) (l3 : Int) (l4 : Int) (l5 : Int) (g : GS) (l6 : Int) : Option ((GS × Int) ⊕ GS) :=
  if w32 l1 < w32 l6 then
    outR (some g)
  else
    if ¬ w32 (i_and (i_shr l2 (l6 - 1)) 1) = 0 then
      some (.inl (g, (l6 + 1)))
    else
      if ¬ w32 l3 = 0 then
        (m_crookedBy g l1 l3 l6).bind fun c79 =>
        m_crossOn_F_j82 N R_crossOn g l1 l2 l3 l4 l5 l6 c79 l4 l6 (i_or l2 (i_shl 1 (l6 - 1))) l1
      else
        m_crossOn_F_j82 N R_crossOn g l1 l2 l3 l4 l5 l6 0 l4 l6 (i_or l2 (i_shl 1 (l6 - 1))) l1
def m_crossOn_F (N : Nat) (R_crossOn : GS → Int → Int → Int → Int → Int → Option GS) (g : GS) (l1 : Int) (l2 : Int) (l3 : Int) (l4 : Int) (l5 : Int) : Option GS :=
  if ¬ w32 l2 = w32 ((i_shl 1 l1) - 1) then
    loopN (fun s => m_crossOn_F_b35 N R_crossOn l1 l2 l3 l4 l5 s.1 s.2) N (g, 1)
  else
    if w32 l4 < w32 (gI g 965 0) then
      some (sI (sI g 965 0 l4) 966 0 l5)
    else
      some g
def m_crossOn_R (N : Nat) : Nat → GS → Int → Int → Int → Int → Int → Option GS
  | 0 => fun _ _ _ _ _ _ => none
  | d + 1 => m_crossOn_F N (m_crossOn_R N d)
def m_crossOn (N : Nat) : GS → Int → Int → Int → Int → Int → Option GS := m_crossOn_R N 16
def m_cross_j30 (N : Nat) (g : GS) (l1 : Int) (l2 : Int) (s0 : Int) : Option (Int × GS) :=
  (m_may g s0 1 1).bind fun c32 =>
  if ¬ w32 c32.1 = 0 then
    (m_crossOn N (sI c32.2 965 0 1000000) l1 0 0 0 0).bind fun c53 =>
    if ¬ w32 l2 = 0 then
      some ((gI c53 966 0), c53)
    else
      some ((gI c53 965 0), c53)
  else
    some (0, c32.2)
def m_cross_j29 (N : Nat) (g : GS) (l1 : Int) (l2 : Int) : Option (Int × GS) :=
  m_cross_j30 N g l1 l2 0
def m_cross (N : Nat) (g : GS) (l1 : Int) (l2 : Int) : Option (Int × GS) :=
  (m_within l1 3 6).bind fun c10 =>
  if w32 c10 = 0 then
    m_cross_j29 N (sI g 900 0 0) l1 l2
  else
    (m_within l2 0 1).bind fun c19 =>
    if w32 c19 = 0 then
      m_cross_j29 N (sI g 900 0 0) l1 l2
    else
      m_cross_j30 N (sI g 900 0 0) l1 l2 1
def m_crooked_b136 (N : Nat) (g : GS) (l2 : Int) (l5 : Int) (l6 : Int) : Option ((Int × Int) ⊕ (Int × GS)) :=
  if w32 l6 ≤ w32 9 then
    outR (some (l5, g))
  else
    (m_crookedBy g l2 (i_rem (i_div l6 10) 10) (i_rem l6 10)).bind fun c160 =>
    some (.inl ((l5 + c160), (i_div l6 10)))
def m_crooked_j120 (N : Nat) (g : GS) (l1 : Int) (l2 : Int) (s0 : Int) : Option (Int × GS) :=
  (m_may g s0 1 1).bind fun c122 =>
  if ¬ w32 c122.1 = 0 then
    loopN (fun s => m_crooked_b136 N c122.2 l2 s.1 s.2) N (0, l1)
  else
    some (0, c122.2)
def m_crooked_j119 (N : Nat) (g : GS) (l1 : Int) (l2 : Int) : Option (Int × GS) :=
  m_crooked_j120 N g l1 l2 0
def m_crooked_j88 (N : Nat) (g : GS) (l1 : Int) (l2 : Int) (l3 : Int) (l4 : Int) : Option (Int × GS) :=
  if w32 l4 = 0 then
    m_crooked_j119 N g l1 l2
  else
    (m_within l2 3 6).bind fun c98 =>
    if w32 c98 = 0 then
      m_crooked_j119 N g l1 l2
    else
      if ¬ w32 l3 = w32 ((i_shl 1 (l2 + 1)) - 2) then
        m_crooked_j119 N g l1 l2
      else
        m_crooked_j120 N g l1 l2 1
def m_crooked_j66 (N : Nat) (g : GS) (l1 : Int) (l2 : Int) (l3 : Int) (l5 : Int) (l6 : Int) (s0 : Int) : Option ((Int × Int × Int × Int) ⊕ (Int × Int × Int)) :=
  some (.inl ((l2 + 1), (i_or l3 (i_shl 1 l6)), s0, (i_div l5 10)))
def m_crooked_j65 (N : Nat) (g : GS) (l1 : Int) (l2 : Int) (l3 : Int) (l5 : Int) (l6 : Int) : Option ((Int × Int × Int × Int) ⊕ (Int × Int × Int)) :=
  m_crooked_j66 N g l1 l2 l3 l5 l6 0
def m_crooked_b30 (N : Nat) (g : GS) (l1 : Int) (l2 : Int) (l3 : Int) (l4 : Int) (l5 : Int) : Option ((Int × Int × Int × Int) ⊕ (Int × Int × Int)) :=
  if w32 l5 ≤ 0 then
    some (.inr (l2, l3, l4))
  else
    if w32 l4 = 0 then
      some (.inr (l2, l3, l4))
    else
      if w32 (i_rem l5 10) ≤ 0 then
        m_crooked_j65 N g l1 l2 l3 l5 (i_rem l5 10)
      else
        if ¬ w32 (i_and (i_shr l3 (i_rem l5 10)) 1) = 0 then
          m_crooked_j65 N g l1 l2 l3 l5 (i_rem l5 10)
        else
          m_crooked_j66 N g l1 l2 l3 l5 (i_rem l5 10) 1
def m_crooked_j25 (N : Nat) (g : GS) (l1 : Int) (l2 : Int) (l3 : Int) (s0 : Int) : Option (Int × GS) :=
  (loopN (fun s => m_crooked_b30 N g l1 s.1 s.2.1 s.2.2.1 s.2.2.2) N (l2, l3, s0, l1)).bind fun t2 =>
  m_crooked_j88 N g l1 t2.1 t2.2.1 t2.2.2
def m_crooked_j24 (N : Nat) (g : GS) (l1 : Int) (l2 : Int) (l3 : Int) : Option (Int × GS) :=
  m_crooked_j25 N g l1 l2 l3 0
def m_crooked (N : Nat) (g : GS) (l1 : Int) : Option (Int × GS) :=
  if w32 l1 ≤ 0 then
    m_crooked_j24 N (sI g 900 0 0) l1 0 0
  else
    if w32 999999 < w32 l1 then
      m_crooked_j24 N (sI g 900 0 0) l1 0 0
    else
      m_crooked_j25 N (sI g 900 0 0) l1 0 0 1
def m_share (g : GS) (l1 : Int) : Option (Int × GS) :=
  (m_within l1 0 12).bind fun c10 =>
  (m_may (sI g 900 0 0) c10 1 1).bind fun c15 =>
  if ¬ w32 c15.1 = 0 then
    some ((i_div (16 - l1) 4), c15.2)
  else
    some (0, c15.2)
def m_findDrive_j186 (N : Nat) (g : GS) (l2 : Int) (l3 : Int) (l5 : Int) (s0 : Int) : Option ((Int × Int) ⊕ (Int)) :=
  some (.inl (s0, (l5 + 1)))
def m_findDrive_j140 (N : Nat) (g : GS) (l2 : Int) (l3 : Int) (l4 : Int) (l5 : Int) (l7 : Int) (s0 : Int) : Option ((Int × Int) ⊕ (Int)) :=
  (rdA g 40 3200 ((100 * (l2 + 1)) + s0)).bind fun v168 =>
  if w32 l4 ≤ w32 (((4001 * l5) + (1000 * l7)) + v168) then
    m_findDrive_j186 N g l2 l3 l5 l4
  else
    m_findDrive_j186 N g l2 l3 l5 (((4001 * l5) + (1000 * l7)) + v168)
def m_findDrive_j138 (N : Nat) (g : GS) (l2 : Int) (l3 : Int) (l4 : Int) (l5 : Int) (l6 : Int) (l7 : Int) : Option ((Int × Int) ⊕ (Int)) :=
  m_findDrive_j140 N g l2 l3 l4 l5 l7 l6
def m_findDrive_j112 (N : Nat) (g : GS) (l2 : Int) (l3 : Int) (l4 : Int) (l5 : Int) (l6 : Int) (s0 : Int) (s1 : Int) : Option ((Int × Int) ⊕ (Int)) :=
  (rdA g 18 5 4).bind fun v121 =>
  dvI v121 <|
  if ¬ w32 (i_rem l2 v121) = 0 then
    m_findDrive_j138 N g l2 l3 l4 l5 l6 (s1 + s0)
  else
    if w32 l6 ≤ 0 then
      m_findDrive_j138 N g l2 l3 l4 l5 l6 (s1 + s0)
    else
      m_findDrive_j140 N g l2 l3 l4 l5 (s1 + s0) (l6 - 1)
def m_findDrive_j81 (N : Nat) (g : GS) (l2 : Int) (l3 : Int) (l4 : Int) (l5 : Int) (s0 : Int) : Option ((Int × Int) ⊕ (Int)) :=
  if w32 5 ≤ w32 s0 then
    if w32 30 ≤ w32 s0 then
      m_findDrive_j112 N g l2 l3 l4 l5 s0 0 2
    else
      m_findDrive_j112 N g l2 l3 l4 l5 s0 (i_div (39 - s0) 10) 2
  else
    some (.inl (l4, (l5 + 1)))
def m_findDrive_b50 (N : Nat) (g : GS) (l2 : Int) (l3 : Int) (l4 : Int) (l5 : Int) : Option ((Int × Int) ⊕ (Int)) :=
  if w32 10 < w32 l5 then
    some (.inr l4)
  else
    if w32 100 ≤ w32 (l3 + (10 * l5)) then
      m_findDrive_j81 N g l2 l3 l4 l5 99
    else
      m_findDrive_j81 N g l2 l3 l4 l5 (l3 + (10 * l5))
def m_findDrive_b36 (N : Nat) (l2 : Int) (g : GS) (l3 : Int) : Option ((GS × Int) ⊕ (GS)) :=
  if w32 100 ≤ w32 l3 then
    some (.inr g)
  else
    (loopN (fun s => m_findDrive_b50 N g l2 l3 s.1 s.2) N (2147483647, 0)).bind fun t1 =>
    (wrA g 40 3200 ((100 * l2) + l3) t1).bind fun g206 =>
    some (.inl (g206, (l3 + 1)))
def m_findDrive_b30 (N : Nat) (g : GS) (l2 : Int) : Option ((GS × Int) ⊕ (GS)) :=
  if w32 l2 ≤ 0 then
    some (.inr g)
  else
    (loopN (fun s => m_findDrive_b36 N l2 s.1 s.2) N (g, 0)).bind fun t2 =>
    some (.inl (t2, (l2 + (-1))))
def m_findDrive_b2 (N : Nat) (l1 : Int) (g : GS) (l2 : Int) : Option ((GS × Int) ⊕ (GS)) :=
  if w32 100 ≤ w32 l2 then
    some (.inr g)
  else
    (wrA g 40 3200 ((100 * (l1 + 1)) + l2) 0).bind fun g21 =>
    some (.inl (g21, (l2 + 1)))
def m_findDrive (N : Nat) (g : GS) (l1 : Int) : Option (Int × GS) :=
  (loopN (fun s => m_findDrive_b2 N l1 s.1 s.2) N (g, 0)).bind fun t3 =>
  (loopN (fun s => m_findDrive_b30 N s.1 s.2) N (t3, l1)).bind fun t4 =>
  (rdA t4 18 5 3).bind fun v230 =>
  (rdA t4 40 3200 (100 + v230)).bind fun v232 =>
  some (v232, t4)
def m_isDrive (g : GS) (l1 : Int) : Option (Int × GS) :=
  (m_within l1 1 30).bind fun c5 =>
  (m_may g c5 1 1).bind fun c10 =>
  rtZ c10.1 (some (c10.1, c10.2))
def m_drive (N : Nat) (g : GS) (l1 : Int) : Option (Int × GS) :=
  (m_isDrive (sI g 900 0 0) l1).bind fun c7 =>
  if ¬ w32 c7.1 = 0 then
    (m_findDrive N c7.2 l1).bind fun c17 =>
    some ((i_div c17.1 1000), c17.2)
  else
    some (0, c7.2)
def m_pumps (N : Nat) (g : GS) (l1 : Int) : Option (Int × GS) :=
  (m_isDrive (sI g 900 0 0) l1).bind fun c7 =>
  if ¬ w32 c7.1 = 0 then
    (m_findDrive N c7.2 l1).bind fun c17 =>
    some ((i_rem c17.1 1000), c17.2)
  else
    some (0, c7.2)
def m_weightOf_j90 (N : Nat) (g : GS) (l1 : Int) (l2 : Int) (l3 : Int) (l6 : Int) (s0 : Int) (s1 : Int) : Option ((Int × Int) ⊕ Int) :=
  some (.inl ((s1 * s0), (l6 + 1)))
def m_weightOf_j37 (N : Nat) (g : GS) (l1 : Int) (l2 : Int) (l3 : Int) (l4 : Int) (l6 : Int) (s0 : Int) : Option ((Int × Int) ⊕ Int) :=
  if ¬ w32 s0 = w32 (-1) then
    if ¬ w32 s0 = w32 1 then
      (rdA g 14 16 (((4 * l1) + 1) + l6)).bind fun v87 =>
      m_weightOf_j90 N g l1 l2 l3 l6 (w32 (16 - v87)) l4
    else
      (rdA g 14 16 (((4 * l1) + 1) + l6)).bind fun v68 =>
      m_weightOf_j90 N g l1 l2 l3 l6 (w32 v68) l4
  else
    some (.inl (l4, (l6 + 1)))
def m_weightOf_b14 (N : Nat) (g : GS) (l1 : Int) (l2 : Int) (l3 : Int) (l4 : Int) (l6 : Int) : Option ((Int × Int) ⊕ Int) :=
  if w32 3 ≤ w32 l6 then
    outR (some l4)
  else
    if ¬ w32 l6 = w32 l2 then
      (rdA g 28 3 l6).bind fun v36 =>
      m_weightOf_j37 N g l1 l2 l3 l4 l6 v36
    else
      m_weightOf_j37 N g l1 l2 l3 l4 l6 l3
def m_weightOf (N : Nat) (g : GS) (l1 : Int) (l2 : Int) (l3 : Int) : Option Int :=
  (rdA g 14 16 (4 * l1)).bind fun v7 =>
  loopN (fun s => m_weightOf_b14 N g l1 l2 l3 s.1 s.2) N ((w32 v7), 0)
def m_odds_b47 (N : Nat) (g : GS) (l1 : Int) (l2 : Int) (l3 : Int) (l5 : Int) : Option ((Int × Int) ⊕ (Int)) :=
  if w32 (gI g 936 0) ≤ w32 l5 then
    some (.inr l3)
  else
    (m_weightOf N g l5 (-1) 0).bind fun c62 =>
    some (.inl ((l3 + c62), (l5 + 1)))
def m_odds_j40 (N : Nat) (g : GS) : Option (Int × GS) :=
  some (0, g)
def m_odds (N : Nat) (g : GS) (l1 : Int) (l2 : Int) : Option (Int × GS) :=
  (m_within l1 0 ((gI (sI g 900 0 0) 936 0) - 1)).bind fun c14 =>
  (m_may (sI g 900 0 0) c14 1 0).bind fun c19 =>
  if w32 c19.1 = 0 then
    m_odds_j40 N c19.2
  else
    (m_within l2 0 1).bind fun c29 =>
    (m_may c19.2 c29 2 1).bind fun c34 =>
    if ¬ w32 c34.1 = 0 then
      (loopN (fun s => m_odds_b47 N c34.2 l1 l2 s.1 s.2) N (0, 0)).bind fun t1 =>
      if ¬ w32 (l_cmp t1 0) = 0 then
        (m_weightOf N c34.2 l1 (-1) 0).bind fun c88 =>
        (m_least N c88 t1 l2).bind fun c93 =>
        some (c93, c34.2)
      else
        some ((w32 l2), c34.2)
    else
      m_odds_j40 N c34.2
def m_mostBy_j39 (N : Nat) (g : GS) (l1 : Int) (l2 : Int) (l5 : Int) (s0 : Int) : Option ((Int × Int) ⊕ Int) :=
  some (.inl (s0, (l5 + 1)))
def m_mostBy_b5 (N : Nat) (g : GS) (l1 : Int) (l2 : Int) (l3 : Int) (l5 : Int) : Option ((Int × Int) ⊕ Int) :=
  if w32 (gI g 936 0) ≤ w32 l5 then
    outR (some l3)
  else
    (m_weightOf N g l5 l1 l2).bind fun c19 =>
    if w32 (l_cmp c19 l3) ≤ 0 then
      m_mostBy_j39 N g l1 l2 l5 l3
    else
      (m_weightOf N g l5 l1 l2).bind fun c32 =>
      m_mostBy_j39 N g l1 l2 l5 c32
def m_mostBy (N : Nat) (g : GS) (l1 : Int) (l2 : Int) : Option Int :=
  loopN (fun s => m_mostBy_b5 N g l1 l2 s.1 s.2) N (0, 0)
def m_likeliest_b14 (N : Nat) (g : GS) (l1 : Int) (l3 : Int) : Option ((Int) ⊕ (Int × GS)) :=
  if w32 (gI g 936 0) ≤ w32 l3 then
    outR (some ((-1), g))
  else
    if w32 (l_cmp l1 0) ≤ 0 then
      some (.inl (l3 + 1))
    else
      (m_weightOf N g l3 (-1) 0).bind fun c32 =>
      if ¬ w32 (l_cmp c32 l1) = 0 then
        some (.inl (l3 + 1))
      else
        outR (some (l3, g))
def m_likeliest (N : Nat) (g : GS) : Option (Int × GS) :=
  (m_mostBy N (sI g 900 0 0) (-1) 0).bind fun c8 =>
  loopN (fun s => m_likeliest_b14 N (sI g 900 0 0) c8 s) N 0
def m_ask_j64 (N : Nat) (g : GS) (l4 : Int) (l5 : Int) : Option ((Int × Int × Int) ⊕ (Int × GS)) :=
  some (.inl (l4, l5, (l4 + 1)))
def m_ask_b12 (N : Nat) (g : GS) (l1 : Int) (l2 : Int) (l4 : Int) : Option ((Int × Int × Int) ⊕ (Int × GS)) :=
  if w32 3 ≤ w32 l4 then
    outR (some (l1, g))
  else
    (rdA g 28 3 l4).bind fun v24 =>
    if w32 v24 = w32 (-1) then
      (m_mostBy N g l4 0).bind fun c36 =>
      (m_mostBy N g l4 1).bind fun c43 =>
      if w32 l1 = w32 (-1) then
        m_ask_j64 N g l4 (c36 + c43)
      else
        if 0 < w32 (l_cmp (c36 + c43) l2) then
          m_ask_j64 N g l4 (c36 + c43)
        else
          some (.inl (l1, l2, (l4 + 1)))
    else
      some (.inl (l1, l2, (l4 + 1)))
def m_ask (N : Nat) (g : GS) : Option (Int × GS) :=
  loopN (fun s => m_ask_b12 N (sI g 900 0 0) s.1 s.2.1 s.2.2) N ((-1), 0, 0)
def m_evening (N : Nat) (g : GS) (l1 : Int) (l2 : Int) : Option (Int × GS) :=
  (m_within l2 0 2).bind fun c9 =>
  (m_may (sI g 900 0 0) c9 1 1).bind fun c14 =>
  if ¬ w32 c14.1 = 0 then
    (m_goes N (sI c14.2 968 0 l1) 1).bind fun c29 =>
    if ¬ w32 l2 = 0 then
      if ¬ w32 l2 = w32 1 then
        some ((gI c29.2 958 0), c29.2)
      else
        (m_wetAll N c29.2).bind fun c47 =>
        some (c47, c29.2)
    else
      some (c29.1, c29.2)
  else
    some (0, c14.2)
def m_evenings_j135 (N : Nat) (g : GS) (l1 : Int) (l2 : Int) (l3 : Int) (l4 : Int) (l5 : Int) (l6 : Int) (l8 : Int) (s0 : Int) (s1 : Int) : Option ((GS × Int × Int × Int × Int × Int) ⊕ (GS × Int × Int × Int × Int)) :=
  some (.inl (g, l4, l5, l6, (s1 + s0), (l8 + 1)))
def m_evenings_j112 (N : Nat) (g : GS) (l1 : Int) (l2 : Int) (l3 : Int) (l4 : Int) (l6 : Int) (l7 : Int) (l8 : Int) (l9 : Int) (s0 : Int) : Option ((GS × Int × Int × Int × Int × Int) ⊕ (GS × Int × Int × Int × Int)) :=
  if ¬ w32 (gI g 958 0) = 0 then
    m_evenings_j135 N g l1 l2 l3 l4 s0 (l6 + l9) l8 0 l7
  else
    m_evenings_j135 N g l1 l2 l3 l4 s0 (l6 + l9) l8 1 l7
def m_evenings_j96 (N : Nat) (g : GS) (l1 : Int) (l2 : Int) (l3 : Int) (l5 : Int) (l6 : Int) (l7 : Int) (l8 : Int) (l9 : Int) (s0 : Int) : Option ((GS × Int × Int × Int × Int × Int) ⊕ (GS × Int × Int × Int × Int)) :=
  if w32 l9 ≤ w32 l5 then
    m_evenings_j112 N g l1 l2 l3 s0 l6 l7 l8 l9 l5
  else
    m_evenings_j112 N g l1 l2 l3 s0 l6 l7 l8 l9 l9
def m_evenings_b55 (N : Nat) (l1 : Int) (l2 : Int) (l3 : Int) (g : GS) (l4 : Int) (l5 : Int) (l6 : Int) (l7 : Int) (l8 : Int) : Option ((GS × Int × Int × Int × Int × Int) ⊕ (GS × Int × Int × Int × Int)) :=
  if w32 l2 ≤ w32 l8 then
    some (.inr (g, l4, l5, l6, l7))
  else
    (m_goes N (sI g 968 0 (l1 + l8)) 1).bind fun c71 =>
    if w32 l4 = w32 (-1) then
      m_evenings_j96 N c71.2 l1 l2 l3 l5 l6 l7 l8 c71.1 c71.1
    else
      if w32 l4 ≤ w32 c71.1 then
        m_evenings_j96 N c71.2 l1 l2 l3 l5 l6 l7 l8 c71.1 l4
      else
        m_evenings_j96 N c71.2 l1 l2 l3 l5 l6 l7 l8 c71.1 c71.1
def m_evenings_j30 (N : Nat) (g : GS) (l1 : Int) (l2 : Int) (l3 : Int) (s0 : Int) : Option (Int × GS) :=
  (m_may g s0 1 1).bind fun c32 =>
  if ¬ w32 c32.1 = 0 then
    (loopN (fun s => m_evenings_b55 N l1 l2 l3 s.1 s.2.1 s.2.2.1 s.2.2.2.1 s.2.2.2.2.1 s.2.2.2.2.2) N (c32.2, (-1), 0, 0, 0, 0)).bind fun t1 =>
    if ¬ w32 l3 = 0 then
      if ¬ w32 l3 = w32 1 then
        if ¬ w32 l3 = w32 2 then
          some (t1.2.2.2.2, t1.1)
        else
          some (t1.2.2.2.1, t1.1)
      else
        some (t1.2.2.1, t1.1)
    else
      some (t1.2.1, t1.1)
  else
    some (0, c32.2)
def m_evenings_j29 (N : Nat) (g : GS) (l1 : Int) (l2 : Int) (l3 : Int) : Option (Int × GS) :=
  m_evenings_j30 N g l1 l2 l3 0
def m_evenings (N : Nat) (g : GS) (l1 : Int) (l2 : Int) (l3 : Int) : Option (Int × GS) :=
  (m_within l2 1 40).bind fun c10 =>
  if w32 c10 = 0 then
    m_evenings_j29 N (sI g 900 0 0) l1 l2 l3
  else
    (m_within l3 0 3).bind fun c19 =>
    if w32 c19 = 0 then
      m_evenings_j29 N (sI g 900 0 0) l1 l2 l3
    else
      m_evenings_j30 N (sI g 900 0 0) l1 l2 l3 1
def m_keepsIn_b2 (N : Nat) (l1 : Nat) (n1 : Nat) (l2 : Int) (g : GS) (l3 : Int) : Option ((GS × Int) ⊕ (GS)) :=
  if w32 24 ≤ w32 l3 then
    some (.inr g)
  else
    (rdA g 26 24 l3).bind fun v17 =>
    (wrA g l1 n1 (l2 + l3) v17).bind fun g18 =>
    some (.inl (g18, (l3 + 1)))
def m_keepsIn (N : Nat) (l1 : Nat) (n1 : Nat) (g : GS) (l2 : Int) : Option GS :=
  (loopN (fun s => m_keepsIn_b2 N l1 n1 l2 s.1 s.2) N (g, 0)).bind fun t1 =>
  (wrA t1 l1 n1 (l2 + 24) (gI t1 949 0)).bind fun g34 =>
  some g34
def m_takesFrom_b2 (N : Nat) (l1 : Nat) (n1 : Nat) (l2 : Int) (g : GS) (l3 : Int) : Option ((GS × Int) ⊕ (GS)) :=
  if w32 24 ≤ w32 l3 then
    some (.inr g)
  else
    (rdA g l1 n1 (l2 + l3)).bind fun v17 =>
    (wrA g 26 24 l3 v17).bind fun g18 =>
    some (.inl (g18, (l3 + 1)))
def m_takesFrom (N : Nat) (l1 : Nat) (n1 : Nat) (g : GS) (l2 : Int) : Option GS :=
  (loopN (fun s => m_takesFrom_b2 N l1 n1 l2 s.1 s.2) N (g, 0)).bind fun t1 =>
  (rdA t1 l1 n1 (l2 + 24)).bind fun v31 =>
  some (sI t1 949 0 v31)
def m_changes (N : Nat) (g : GS) : Option (Int × GS) :=
  if ¬ w32 (gI g 970 0) = w32 20 then
    (m_keepsIn N 41 500 g (25 * (gI g 970 0))).bind fun c23 =>
    some (1, (sI c23 970 0 ((gI c23 970 0) + 1)))
  else
    some (0, g)
def m_swap_b43 (N : Nat) (l1 : Int) (l2 : Int) (g : GS) (l3 : Int) : Option ((GS × Int) ⊕ (Int × GS)) :=
  if w32 2 ≤ w32 l3 then
    outR (some (1, g))
  else
    (rdA g 26 24 ((2 * l1) + l3)).bind fun v57 =>
    (rdA g 26 24 ((2 * l2) + l3)).bind fun v78 =>
    (wrA g 26 24 ((2 * l1) + l3) v78).bind fun g79 =>
    (wrA g79 26 24 ((2 * l2) + l3) v57).bind fun g91 =>
    some (.inl (g91, (l3 + 1)))
def m_swap (N : Nat) (g : GS) (l1 : Int) (l2 : Int) : Option (Int × GS) :=
  (m_isLine (sI g 900 0 0) l1 1).bind fun c8 =>
  if w32 c8.1 = 0 then
    some (0, c8.2)
  else
    (m_isLine c8.2 l2 1).bind fun c17 =>
    if ¬ w32 c17.1 = 0 then
      if ¬ w32 l1 = w32 l2 then
        (m_changes N c17.2).bind fun c33 =>
        if ¬ w32 c33.1 = 0 then
          loopN (fun s => m_swap_b43 N l1 l2 s.1 s.2) N (c33.2, 0)
        else
          some ((-1), c33.2)
      else
        some (0, c17.2)
    else
      some (0, c17.2)
def m_hand_j43 (N : Nat) (g : GS) (l1 : Int) (l2 : Int) (s0 : Int) : Option (Int × GS) :=
  (m_may g s0 2 1).bind fun c45 =>
  if ¬ w32 c45.1 = 0 then
    (m_changes N c45.2).bind fun c54 =>
    if ¬ w32 c54.1 = 0 then
      (wrA c54.2 26 24 ((2 * l1) + 1) l2).bind fun g72 =>
      some (1, g72)
    else
      some ((-1), c54.2)
  else
    some (0, c45.2)
def m_hand_j42 (N : Nat) (g : GS) (l1 : Int) (l2 : Int) : Option (Int × GS) :=
  m_hand_j43 N g l1 l2 0
def m_hand (N : Nat) (g : GS) (l1 : Int) (l2 : Int) : Option (Int × GS) :=
  (m_isLine (sI g 900 0 0) l1 1).bind fun c8 =>
  if w32 c8.1 = 0 then
    some (0, c8.2)
  else
    if w32 l2 ≤ 0 then
      m_hand_j42 N c8.2 l1 l2
    else
      if w32 (i_shl 1 (gI c8.2 932 0)) ≤ w32 l2 then
        m_hand_j42 N c8.2 l1 l2
      else
        (m_onesOf N c8.2 l2).bind fun c31 =>
        if w32 2 < w32 c31 then
          m_hand_j42 N c8.2 l1 l2
        else
          m_hand_j43 N c8.2 l1 l2 1
def m_drop_b39 (N : Nat) (g : GS) (l2 : Int) : Option ((GS × Int) ⊕ (Int × GS)) :=
  if w32 (2 * (gI g 949 0)) ≤ w32 l2 then
    outR (some ((gI g 949 0), g))
  else
    (rdA g 26 24 (l2 + 2)).bind fun v61 =>
    (wrA g 26 24 l2 v61).bind fun g62 =>
    some (.inl (g62, (l2 + 1)))
def m_drop (N : Nat) (g : GS) (l1 : Int) : Option (Int × GS) :=
  (m_isLine (sI g 900 0 0) l1 1).bind fun c8 =>
  if ¬ w32 c8.1 = 0 then
    (m_changes N c8.2).bind fun c17 =>
    if ¬ w32 c17.1 = 0 then
      loopN (fun s => m_drop_b39 N s.1 s.2) N ((sI c17.2 949 0 ((gI c17.2 949 0) - 1)), (2 * l1))
    else
      some ((-1), c17.2)
  else
    some (0, c8.2)
def m_undo (N : Nat) (g : GS) : Option (Int × GS) :=
  if ¬ w32 (gI (sI g 900 0 0) 970 0) = 0 then
    (m_takesFrom N 41 500 (sI (sI g 900 0 0) 970 0 ((gI (sI g 900 0 0) 970 0) - 1)) (25 * (gI (sI (sI g 900 0 0) 970 0 ((gI (sI g 900 0 0) 970 0) - 1)) 970 0))).bind fun c36 =>
    some ((gI c36 970 0), c36)
  else
    some ((-1), (sI g 900 0 0))
def m_image_b48 (N : Nat) (l1 : Int) (g : GS) (l2 : Int) : Option ((GS × Int) ⊕ (GS)) :=
  if w32 (25 * (gI g 970 0)) ≤ w32 l2 then
    some (.inr g)
  else
    (rdA g 41 500 l2).bind fun v76 =>
    (wrA g 42 1578 (((l1 + 25) + 1) + l2) v76).bind fun g77 =>
    some (.inl (g77, (l2 + 1)))
def m_image (N : Nat) (g : GS) : Option (Int × GS) :=
  if ¬ w32 (gI (sI g 900 0 0) 972 0) = w32 3 then
    (m_keepsIn N 42 1578 (sI g 900 0 0) (526 * (gI (sI g 900 0 0) 972 0))).bind fun c30 =>
    (wrA c30 42 1578 ((526 * (gI (sI g 900 0 0) 972 0)) + 25) (gI c30 970 0)).bind fun g45 =>
    (loopN (fun s => m_image_b48 N (526 * (gI (sI g 900 0 0) 972 0)) s.1 s.2) N (g45, 0)).bind fun t1 =>
    some ((gI (sI t1 972 0 ((gI t1 972 0) + 1)) 972 0), (sI t1 972 0 ((gI t1 972 0) + 1)))
  else
    some ((-1), (sI g 900 0 0))
def m_restore_b57 (N : Nat) (l1 : Int) (g : GS) (l2 : Int) : Option ((GS × Int) ⊕ (Int × GS)) :=
  if w32 (25 * (gI g 970 0)) ≤ w32 l2 then
    outR (some ((gI g 972 0), g))
  else
    (rdA g 42 1578 (((l1 + 25) + 1) + l2)).bind fun v85 =>
    (wrA g 41 500 l2 v85).bind fun g86 =>
    some (.inl (g86, (l2 + 1)))
def m_restore (N : Nat) (g : GS) : Option (Int × GS) :=
  if ¬ w32 (gI (sI g 900 0 0) 972 0) = 0 then
    (m_takesFrom N 42 1578 (sI (sI g 900 0 0) 972 0 ((gI (sI g 900 0 0) 972 0) - 1)) (526 * (gI (sI (sI g 900 0 0) 972 0 ((gI (sI g 900 0 0) 972 0) - 1)) 972 0))).bind fun c39 =>
    (rdA c39 42 1578 ((526 * (gI (sI (sI g 900 0 0) 972 0 ((gI (sI g 900 0 0) 972 0) - 1)) 972 0)) + 25)).bind fun v51 =>
    loopN (fun s => m_restore_b57 N (526 * (gI (sI (sI g 900 0 0) 972 0 ((gI (sI g 900 0 0) 972 0) - 1)) 972 0)) s.1 s.2) N ((sI c39 970 0 v51), 0)
  else
    some ((-1), (sI g 900 0 0))
def m_status (g : GS) (l1 : Int) : Option (Int × GS) :=
  (m_within l1 0 2).bind fun c8 =>
  if w32 c8 = 0 then
    some ((-1), (sI g 900 0 0))
  else
    (rdA (sI g 900 0 0) 1 3 l1).bind fun v19 =>
    some (v19, (sI g 900 0 0))
def m_count (g : GS) (l1 : Int) : Option (Int × GS) :=
  if ¬ w32 l1 = 0 then
    if ¬ w32 l1 = w32 1 then
      if ¬ w32 l1 = w32 2 then
        some ((-1), (sI g 900 0 0))
      else
        some ((gI (sI g 900 0 0) 970 0), (sI g 900 0 0))
    else
      some ((gI (sI g 900 0 0) 902 0), (sI g 900 0 0))
  else
    some ((gI (sI g 900 0 0) 972 0), (sI g 900 0 0))
