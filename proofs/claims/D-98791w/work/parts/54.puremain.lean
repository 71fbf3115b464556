/-! RainWheelLaw.law: each kind of call, as it is checked (printed by gen/mkmain.py) -/
def lc_0 (N : Nat) (K : Nat → Nat) (z : Nat) (g gm : GS) (a1 a2 a3 a4 a5 a6 : Int) : Option (S3 × GS) :=
  (x_feed N K z g a1 a2 a3 a4 a5).bind fun c283 =>
  (m_feed N gm a1 a2 a3 a4 a5).bind fun c317 =>
  if w32 c283.1 = w32 c317.1 then
    some ((c283.2.1, c283.2.2.1, c283.2.2.2), c317.2)
  else
    none
def lc_1 (N : Nat) (K : Nat → Nat) (z : Nat) (g gm : GS) (a1 a2 a3 a4 a5 a6 : Int) : Option (S3 × GS) :=
  (xLaw0_road N 393 K z g a1).bind fun c333 =>
  (m_road N gm a1).bind fun c345 =>
  (m_thrown c345.2).bind fun c351 =>
  if w32 c351 = w32 c333.1 then
    if ¬ w32 c333.1 = 0 then
      some ((c333.2.1, c333.2.2.1, c333.2.2.2), c345.2)
    else
      (rdA c333.2.2.2 393 1 0).bind fun v368 =>
      if w32 (l_cmp v368 (w32 c345.1)) = 0 then
        some ((c333.2.1, c333.2.2.1, c333.2.2.2), c345.2)
      else
        none
  else
    none
def lc_2 (N : Nat) (K : Nat → Nat) (z : Nat) (g gm : GS) (a1 a2 a3 a4 a5 a6 : Int) : Option (S3 × GS) :=
  (xLaw0_law N 393 K z g a1).bind fun c389 =>
  (m_law N gm a1).bind fun c401 =>
  (m_thrown c401.2).bind fun c407 =>
  if w32 c407 = w32 c389.1 then
    if ¬ w32 c389.1 = 0 then
      some ((c389.2.1, c389.2.2.1, c389.2.2.2), c401.2)
    else
      (rdA c389.2.2.2 393 1 0).bind fun v424 =>
      if w32 (l_cmp v424 (w32 c401.1)) = 0 then
        some ((c389.2.1, c389.2.2.1, c389.2.2.2), c401.2)
      else
        none
  else
    none
def lc_3 (N : Nat) (K : Nat → Nat) (z : Nat) (g gm : GS) (a1 a2 a3 a4 a5 a6 : Int) : Option (S3 × GS) :=
  (xLaw0_plan N 393 K z g a1).bind fun c445 =>
  (m_plan N gm a1).bind fun c457 =>
  (m_thrown c457.2).bind fun c463 =>
  if w32 c463 = w32 c445.1 then
    if ¬ w32 c445.1 = 0 then
      some ((c445.2.1, c445.2.2.1, c445.2.2.2), c457.2)
    else
      (rdA c445.2.2.2 393 1 0).bind fun v480 =>
      if w32 (l_cmp v480 (w32 c457.1)) = 0 then
        some ((c445.2.1, c445.2.2.1, c445.2.2.2), c457.2)
      else
        none
  else
    none
def lc_4 (N : Nat) (K : Nat → Nat) (z : Nat) (g gm : GS) (a1 a2 a3 a4 a5 a6 : Int) : Option (S3 × GS) :=
  (xLaw0_book N 393 K z g a1).bind fun c501 =>
  (m_book N gm a1).bind fun c513 =>
  (m_thrown c513.2).bind fun c519 =>
  if w32 c519 = w32 c501.1 then
    if ¬ w32 c501.1 = 0 then
      some ((c501.2.1, c501.2.2.1, c501.2.2.2), c513.2)
    else
      (rdA c501.2.2.2 393 1 0).bind fun v536 =>
      if w32 (l_cmp v536 (w32 c513.1)) = 0 then
        some ((c501.2.1, c501.2.2.1, c501.2.2.2), c513.2)
      else
        none
  else
    none
def lc_5 (N : Nat) (K : Nat → Nat) (z : Nat) (g gm : GS) (a1 a2 a3 a4 a5 a6 : Int) : Option (S3 × GS) :=
  (x_fault g).bind fun c550 =>
  (m_fault gm).bind fun c554 =>
  if w32 c550 = w32 c554.1 then
    some ((K, z, g), c554.2)
  else
    none
def lc_6 (N : Nat) (K : Nat → Nat) (z : Nat) (g gm : GS) (a1 a2 a3 a4 a5 a6 : Int) : Option (S3 × GS) :=
  (xLaw0_told 393 K z g a1).bind fun c570 =>
  (m_told gm a1).bind fun c582 =>
  (m_thrown c582.2).bind fun c588 =>
  if w32 c588 = w32 c570.1 then
    if ¬ w32 c570.1 = 0 then
      some ((c570.2.1, c570.2.2.1, c570.2.2.2), c582.2)
    else
      (rdA c570.2.2.2 393 1 0).bind fun v605 =>
      if w32 (l_cmp v605 (w32 c582.1)) = 0 then
        some ((c570.2.1, c570.2.2.1, c570.2.2.2), c582.2)
      else
        none
  else
    none
def lc_7 (N : Nat) (K : Nat → Nat) (z : Nat) (g gm : GS) (a1 a2 a3 a4 a5 a6 : Int) : Option (S3 × GS) :=
  (xLaw0_deed 393 K z g a1 a2).bind fun c632 =>
  (m_deed gm a1 a2).bind fun c650 =>
  (m_thrown c650.2).bind fun c656 =>
  if w32 c656 = w32 c632.1 then
    if ¬ w32 c632.1 = 0 then
      some ((c632.2.1, c632.2.2.1, c632.2.2.2), c650.2)
    else
      (rdA c632.2.2.2 393 1 0).bind fun v673 =>
      if w32 (l_cmp v673 (w32 c650.1)) = 0 then
        some ((c632.2.1, c632.2.2.1, c632.2.2.2), c650.2)
      else
        none
  else
    none
def lc_8 (N : Nat) (K : Nat → Nat) (z : Nat) (g gm : GS) (a1 a2 a3 a4 a5 a6 : Int) : Option (S3 × GS) :=
  (xLaw0_strong 393 K z g a1).bind fun c694 =>
  (m_strong gm a1).bind fun c706 =>
  (m_thrown c706.2).bind fun c712 =>
  if w32 c712 = w32 c694.1 then
    if ¬ w32 c694.1 = 0 then
      some ((c694.2.1, c694.2.2.1, c694.2.2.2), c706.2)
    else
      (rdA c694.2.2.2 393 1 0).bind fun v729 =>
      if w32 (l_cmp v729 (w32 c706.1)) = 0 then
        some ((c694.2.1, c694.2.2.1, c694.2.2.2), c706.2)
      else
        none
  else
    none
def lc_9 (N : Nat) (K : Nat → Nat) (z : Nat) (g gm : GS) (a1 a2 a3 a4 a5 a6 : Int) : Option (S3 × GS) :=
  (xLaw0_bears 393 K z g a1).bind fun c750 =>
  (m_bears gm a1).bind fun c762 =>
  (m_thrown c762.2).bind fun c768 =>
  if w32 c768 = w32 c750.1 then
    if ¬ w32 c750.1 = 0 then
      some ((c750.2.1, c750.2.2.1, c750.2.2.2), c762.2)
    else
      (rdA c750.2.2.2 393 1 0).bind fun v785 =>
      if w32 (l_cmp v785 (w32 c762.1)) = 0 then
        some ((c750.2.1, c750.2.2.1, c750.2.2.2), c762.2)
      else
        none
  else
    none
def lc_10 (N : Nat) (K : Nat → Nat) (z : Nat) (g gm : GS) (a1 a2 a3 a4 a5 a6 : Int) : Option (S3 × GS) :=
  (xLaw0_rains N 393 K z g a1).bind fun c806 =>
  (m_rains gm a1).bind fun c818 =>
  (m_thrown c818.2).bind fun c824 =>
  if w32 c824 = w32 c806.1 then
    if ¬ w32 c806.1 = 0 then
      some ((c806.2.1, c806.2.2.1, c806.2.2.2), c818.2)
    else
      (rdA c806.2.2.2 393 1 0).bind fun v841 =>
      if w32 c818.1 = 0 then
        if w32 (l_cmp v841 0) = 0 then
          some ((c806.2.1, c806.2.2.1, c806.2.2.2), c818.2)
        else
          none
      else
        if w32 (l_cmp v841 1) = 0 then
          some ((c806.2.1, c806.2.2.1, c806.2.2.2), c818.2)
        else
          none
  else
    none
def lc_11 (N : Nat) (K : Nat → Nat) (z : Nat) (g gm : GS) (a1 a2 a3 a4 a5 a6 : Int) : Option (S3 × GS) :=
  (xLaw0_would 393 K z g a1 a2 a3 a4 a5 a6).bind fun c900 =>
  (m_would N gm a1 a2 a3 a4 a5 a6).bind fun c943 =>
  (m_thrown c943.2).bind fun c949 =>
  if w32 c949 = w32 c900.1 then
    if ¬ w32 c900.1 = 0 then
      some ((c900.2.1, c900.2.2.1, c900.2.2.2), c943.2)
    else
      (rdA c900.2.2.2 393 1 0).bind fun v966 =>
      if w32 (l_cmp v966 (w32 c943.1)) = 0 then
        some ((c900.2.1, c900.2.2.1, c900.2.2.2), c943.2)
      else
        none
  else
    none
def lc_12 (N : Nat) (K : Nat → Nat) (z : Nat) (g gm : GS) (a1 a2 a3 a4 a5 a6 : Int) : Option (S3 × GS) :=
  (xLaw0_line N 393 K z g a1 a2).bind fun c993 =>
  (m_line N gm a1 a2).bind fun c1011 =>
  (m_thrown c1011.2).bind fun c1017 =>
  if w32 c1017 = w32 c993.1 then
    if ¬ w32 c993.1 = 0 then
      some ((c993.2.1, c993.2.2.1, c993.2.2.2), c1011.2)
    else
      (rdA c993.2.2.2 393 1 0).bind fun v1034 =>
      if w32 (l_cmp v1034 (w32 c1011.1)) = 0 then
        some ((c993.2.1, c993.2.2.1, c993.2.2.2), c1011.2)
      else
        none
  else
    none
def lc_13 (N : Nat) (K : Nat → Nat) (z : Nat) (g gm : GS) (a1 a2 a3 a4 a5 a6 : Int) : Option (S3 × GS) :=
  (x_span N K g).bind fun c1048 =>
  (m_span N gm).bind fun c1052 =>
  if w32 c1048.1 = w32 c1052.1 then
    some ((K, z, c1048.2), c1052.2)
  else
    none
def lc_14 (N : Nat) (K : Nat → Nat) (z : Nat) (g gm : GS) (a1 a2 a3 a4 a5 a6 : Int) : Option (S3 × GS) :=
  (xLaw0_wet N 393 K z g a1).bind fun c1068 =>
  (m_wet N gm a1).bind fun c1080 =>
  (m_thrown c1080.2).bind fun c1086 =>
  if w32 c1086 = w32 c1068.1 then
    if ¬ w32 c1068.1 = 0 then
      some ((c1068.2.1, c1068.2.2.1, c1068.2.2.2), c1080.2)
    else
      (rdA c1068.2.2.2 393 1 0).bind fun v1103 =>
      if w32 (l_cmp v1103 (w32 c1080.1)) = 0 then
        some ((c1068.2.1, c1068.2.2.1, c1068.2.2.2), c1080.2)
      else
        none
  else
    none
def lc_15 (N : Nat) (K : Nat → Nat) (z : Nat) (g gm : GS) (a1 a2 a3 a4 a5 a6 : Int) : Option (S3 × GS) :=
  (xLaw0_idle N 393 K z g a1).bind fun c1124 =>
  (m_idle N gm a1).bind fun c1136 =>
  (m_thrown c1136.2).bind fun c1142 =>
  if w32 c1142 = w32 c1124.1 then
    if ¬ w32 c1124.1 = 0 then
      some ((c1124.2.1, c1124.2.2.1, c1124.2.2.2), c1136.2)
    else
      (rdA c1124.2.2.2 393 1 0).bind fun v1159 =>
      if w32 (l_cmp v1159 (w32 c1136.1)) = 0 then
        some ((c1124.2.1, c1124.2.2.1, c1124.2.2.2), c1136.2)
      else
        none
  else
    none
def lc_16 (N : Nat) (K : Nat → Nat) (z : Nat) (g gm : GS) (a1 a2 a3 a4 a5 a6 : Int) : Option (S3 × GS) :=
  (x_umbrella N K g).bind fun c1173 =>
  (m_umbrella N gm).bind fun c1177 =>
  if w32 c1173.1 = w32 c1177.1 then
    some ((K, z, c1173.2), c1177.2)
  else
    none
def lc_17 (N : Nat) (K : Nat → Nat) (z : Nat) (g gm : GS) (a1 a2 a3 a4 a5 a6 : Int) : Option (S3 × GS) :=
  (xLaw0_slack N 393 K z g a1).bind fun c1193 =>
  (m_slack N gm a1).bind fun c1205 =>
  (m_thrown c1205.2).bind fun c1211 =>
  if w32 c1211 = w32 c1193.1 then
    if ¬ w32 c1193.1 = 0 then
      some ((c1193.2.1, c1193.2.2.1, c1193.2.2.2), c1205.2)
    else
      (rdA c1193.2.2.2 393 1 0).bind fun v1228 =>
      if w32 (l_cmp v1228 (w32 c1205.1)) = 0 then
        some ((c1193.2.1, c1193.2.2.1, c1193.2.2.2), c1205.2)
      else
        none
  else
    none
def lc_18 (N : Nat) (K : Nat → Nat) (z : Nat) (g gm : GS) (a1 a2 a3 a4 a5 a6 : Int) : Option (S3 × GS) :=
  (x_urgent N K g).bind fun c1242 =>
  (m_urgent N gm).bind fun c1246 =>
  if w32 c1242.1 = w32 c1246.1 then
    some ((K, z, c1242.2), c1246.2)
  else
    none
def lc_19 (N : Nat) (K : Nat → Nat) (z : Nat) (g gm : GS) (a1 a2 a3 a4 a5 a6 : Int) : Option (S3 × GS) :=
  (xLaw0_ahead N 393 K z g a1).bind fun c1262 =>
  (m_ahead N gm a1).bind fun c1274 =>
  (m_thrown c1274.2).bind fun c1280 =>
  if w32 c1280 = w32 c1262.1 then
    if ¬ w32 c1262.1 = 0 then
      some ((c1262.2.1, c1262.2.2.1, c1262.2.2.2), c1274.2)
    else
      (rdA c1262.2.2.2 393 1 0).bind fun v1297 =>
      if w32 (l_cmp v1297 (w32 c1274.1)) = 0 then
        some ((c1262.2.1, c1262.2.2.1, c1262.2.2.2), c1274.2)
      else
        none
  else
    none
def lc_20 (N : Nat) (K : Nat → Nat) (z : Nat) (g gm : GS) (a1 a2 a3 a4 a5 a6 : Int) : Option (S3 × GS) :=
  (xLaw0_chain N 393 K z g a1).bind fun c1318 =>
  (m_chain N gm a1).bind fun c1330 =>
  (m_thrown c1330.2).bind fun c1336 =>
  if w32 c1336 = w32 c1318.1 then
    if ¬ w32 c1318.1 = 0 then
      some ((c1318.2.1, c1318.2.2.1, c1318.2.2.2), c1330.2)
    else
      (rdA c1318.2.2.2 393 1 0).bind fun v1353 =>
      if w32 (l_cmp v1353 (w32 c1330.1)) = 0 then
        some ((c1318.2.1, c1318.2.2.1, c1318.2.2.2), c1330.2)
      else
        none
  else
    none
def lc_21 (N : Nat) (K : Nat → Nat) (z : Nat) (g gm : GS) (a1 a2 a3 a4 a5 a6 : Int) : Option (S3 × GS) :=
  (xLaw0_soonest N 393 K z g a1).bind fun c1374 =>
  (m_soonest N gm a1).bind fun c1386 =>
  (m_thrown c1386.2).bind fun c1392 =>
  if w32 c1392 = w32 c1374.1 then
    if ¬ w32 c1374.1 = 0 then
      some ((c1374.2.1, c1374.2.2.1, c1374.2.2.2), c1386.2)
    else
      (rdA c1374.2.2.2 393 1 0).bind fun v1409 =>
      if w32 (l_cmp v1409 (w32 c1386.1)) = 0 then
        some ((c1374.2.1, c1374.2.2.1, c1374.2.2.2), c1386.2)
      else
        none
  else
    none
def lc_22 (N : Nat) (K : Nat → Nat) (z : Nat) (g gm : GS) (a1 a2 a3 a4 a5 a6 : Int) : Option (S3 × GS) :=
  (xLaw0_first N 393 K z g a1).bind fun c1430 =>
  (m_first N gm a1).bind fun c1442 =>
  (m_thrown c1442.2).bind fun c1448 =>
  if w32 c1448 = w32 c1430.1 then
    if ¬ w32 c1430.1 = 0 then
      some ((c1430.2.1, c1430.2.2.1, c1430.2.2.2), c1442.2)
    else
      (rdA c1430.2.2.2 393 1 0).bind fun v1465 =>
      if w32 (l_cmp v1465 (w32 c1442.1)) = 0 then
        some ((c1430.2.1, c1430.2.2.1, c1430.2.2.2), c1442.2)
      else
        none
  else
    none
def lc_23 (N : Nat) (K : Nat → Nat) (z : Nat) (g gm : GS) (a1 a2 a3 a4 a5 a6 : Int) : Option (S3 × GS) :=
  (xLaw0_sinks N 393 K z g a1 a2 a3).bind fun c1498 =>
  (m_sinks N gm a1 a2 a3).bind fun c1522 =>
  (m_thrown c1522.2).bind fun c1528 =>
  if w32 c1528 = w32 c1498.1 then
    if ¬ w32 c1498.1 = 0 then
      some ((c1498.2.1, c1498.2.2.1, c1498.2.2.2), c1522.2)
    else
      (rdA c1498.2.2.2 393 1 0).bind fun v1545 =>
      if w32 (l_cmp v1545 (w32 c1522.1)) = 0 then
        some ((c1498.2.1, c1498.2.2.1, c1498.2.2.2), c1522.2)
      else
        none
  else
    none
def lc_24 (N : Nat) (K : Nat → Nat) (z : Nat) (g gm : GS) (a1 a2 a3 a4 a5 a6 : Int) : Option (S3 × GS) :=
  (xLaw0_under N 393 K z g a1 a2 a3).bind fun c1578 =>
  (m_under N gm a1 a2 a3).bind fun c1602 =>
  (m_thrown c1602.2).bind fun c1608 =>
  if w32 c1608 = w32 c1578.1 then
    if ¬ w32 c1578.1 = 0 then
      some ((c1578.2.1, c1578.2.2.1, c1578.2.2.2), c1602.2)
    else
      (rdA c1578.2.2.2 393 1 0).bind fun v1625 =>
      if w32 (l_cmp v1625 (w32 c1602.1)) = 0 then
        some ((c1578.2.1, c1578.2.2.1, c1578.2.2.2), c1602.2)
      else
        none
  else
    none
def lc_25 (N : Nat) (K : Nat → Nat) (z : Nat) (g gm : GS) (a1 a2 a3 a4 a5 a6 : Int) : Option (S3 × GS) :=
  (xLaw0_push N 393 K z g a1 a2 a3 a4).bind fun c1664 =>
  (m_push N gm a1 a2 a3 a4).bind fun c1694 =>
  (m_thrown c1694.2).bind fun c1700 =>
  if w32 c1700 = w32 c1664.1 then
    if ¬ w32 c1664.1 = 0 then
      some ((c1664.2.1, c1664.2.2.1, c1664.2.2.2), c1694.2)
    else
      (rdA c1664.2.2.2 393 1 0).bind fun v1717 =>
      if w32 (l_cmp v1717 (w32 c1694.1)) = 0 then
        some ((c1664.2.1, c1664.2.2.1, c1664.2.2.2), c1694.2)
      else
        none
  else
    none
def lc_26 (N : Nat) (K : Nat → Nat) (z : Nat) (g gm : GS) (a1 a2 a3 a4 a5 a6 : Int) : Option (S3 × GS) :=
  (xLaw0_tries N 393 K z g a1 a2 a3 a4).bind fun c1756 =>
  (m_tries N gm a1 a2 a3 a4).bind fun c1786 =>
  (m_thrown c1786.2).bind fun c1792 =>
  if w32 c1792 = w32 c1756.1 then
    if ¬ w32 c1756.1 = 0 then
      some ((c1756.2.1, c1756.2.2.1, c1756.2.2.2), c1786.2)
    else
      (rdA c1756.2.2.2 393 1 0).bind fun v1809 =>
      if w32 (l_cmp v1809 c1786.1) = 0 then
        some ((c1756.2.1, c1756.2.2.1, c1756.2.2.2), c1786.2)
      else
        none
  else
    none
def lc_27 (N : Nat) (K : Nat → Nat) (z : Nat) (g gm : GS) (a1 a2 a3 a4 a5 a6 : Int) : Option (S3 × GS) :=
  (xLaw0_half N 393 K z g a1 a2).bind fun c1835 =>
  (m_half N gm a1 a2).bind fun c1853 =>
  (m_thrown c1853.2).bind fun c1859 =>
  if w32 c1859 = w32 c1835.1 then
    if ¬ w32 c1835.1 = 0 then
      some ((c1835.2.1, c1835.2.2.1, c1835.2.2.2), c1853.2)
    else
      (rdA c1835.2.2.2 393 1 0).bind fun v1876 =>
      if w32 (l_cmp v1876 (w32 c1853.1)) = 0 then
        some ((c1835.2.1, c1835.2.2.1, c1835.2.2.2), c1853.2)
      else
        none
  else
    none
def lc_28 (N : Nat) (K : Nat → Nat) (z : Nat) (g gm : GS) (a1 a2 a3 a4 a5 a6 : Int) : Option (S3 × GS) :=
  (xLaw0_easiest N 393 K z g a1).bind fun c1897 =>
  (m_easiest N gm a1).bind fun c1909 =>
  (m_thrown c1909.2).bind fun c1915 =>
  if w32 c1915 = w32 c1897.1 then
    if ¬ w32 c1897.1 = 0 then
      some ((c1897.2.1, c1897.2.2.1, c1897.2.2.2), c1909.2)
    else
      (rdA c1897.2.2.2 393 1 0).bind fun v1932 =>
      if w32 (l_cmp v1932 (w32 c1909.1)) = 0 then
        some ((c1897.2.1, c1897.2.2.1, c1897.2.2.2), c1909.2)
      else
        none
  else
    none
def lc_29 (N : Nat) (K : Nat → Nat) (z : Nat) (g gm : GS) (a1 a2 a3 a4 a5 a6 : Int) : Option (S3 × GS) :=
  (xLaw0_waits N 393 K z g a1 a2 a3 a4).bind fun c1971 =>
  (m_waits N gm a1 a2 a3 a4).bind fun c2001 =>
  (m_thrown c2001.2).bind fun c2007 =>
  if w32 c2007 = w32 c1971.1 then
    if ¬ w32 c1971.1 = 0 then
      some ((c1971.2.1, c1971.2.2.1, c1971.2.2.2), c2001.2)
    else
      (rdA c1971.2.2.2 393 1 0).bind fun v2024 =>
      if w32 (l_cmp v2024 c2001.1) = 0 then
        some ((c1971.2.1, c1971.2.2.1, c1971.2.2.2), c2001.2)
      else
        none
  else
    none
def lc_30 (N : Nat) (K : Nat → Nat) (z : Nat) (g gm : GS) (a1 a2 a3 a4 a5 a6 : Int) : Option (S3 × GS) :=
  (xLaw0_await N 393 K z g a1 a2).bind fun c2050 =>
  (m_await N gm a1 a2).bind fun c2068 =>
  (m_thrown c2068.2).bind fun c2074 =>
  if w32 c2074 = w32 c2050.1 then
    if ¬ w32 c2050.1 = 0 then
      some ((c2050.2.1, c2050.2.2.1, c2050.2.2.2), c2068.2)
    else
      (rdA c2050.2.2.2 393 1 0).bind fun v2091 =>
      if w32 (l_cmp v2091 (w32 c2068.1)) = 0 then
        some ((c2050.2.1, c2050.2.2.1, c2050.2.2.2), c2068.2)
      else
        none
  else
    none
def lc_31 (N : Nat) (K : Nat → Nat) (z : Nat) (g gm : GS) (a1 a2 a3 a4 a5 a6 : Int) : Option (S3 × GS) :=
  (xLaw0_cross N 393 K z g a1 a2).bind fun c2118 =>
  (m_cross N gm a1 a2).bind fun c2136 =>
  (m_thrown c2136.2).bind fun c2142 =>
  if w32 c2142 = w32 c2118.1 then
    if ¬ w32 c2118.1 = 0 then
      some ((c2118.2.1, c2118.2.2.1, c2118.2.2.2), c2136.2)
    else
      (rdA c2118.2.2.2 393 1 0).bind fun v2159 =>
      if w32 (l_cmp v2159 (w32 c2136.1)) = 0 then
        some ((c2118.2.1, c2118.2.2.1, c2118.2.2.2), c2136.2)
      else
        none
  else
    none
def lc_32 (N : Nat) (K : Nat → Nat) (z : Nat) (g gm : GS) (a1 a2 a3 a4 a5 a6 : Int) : Option (S3 × GS) :=
  (xLaw0_crooked N 393 K z g a1).bind fun c2180 =>
  (m_crooked N gm a1).bind fun c2192 =>
  (m_thrown c2192.2).bind fun c2198 =>
  if w32 c2198 = w32 c2180.1 then
    if ¬ w32 c2180.1 = 0 then
      some ((c2180.2.1, c2180.2.2.1, c2180.2.2.2), c2192.2)
    else
      (rdA c2180.2.2.2 393 1 0).bind fun v2215 =>
      if w32 (l_cmp v2215 (w32 c2192.1)) = 0 then
        some ((c2180.2.1, c2180.2.2.1, c2180.2.2.2), c2192.2)
      else
        none
  else
    none
def lc_33 (N : Nat) (K : Nat → Nat) (z : Nat) (g gm : GS) (a1 a2 a3 a4 a5 a6 : Int) : Option (S3 × GS) :=
  (xLaw0_share 393 K z g a1).bind fun c2236 =>
  (m_share gm a1).bind fun c2248 =>
  (m_thrown c2248.2).bind fun c2254 =>
  if w32 c2254 = w32 c2236.1 then
    if ¬ w32 c2236.1 = 0 then
      some ((c2236.2.1, c2236.2.2.1, c2236.2.2.2), c2248.2)
    else
      (rdA c2236.2.2.2 393 1 0).bind fun v2271 =>
      if w32 (l_cmp v2271 (w32 c2248.1)) = 0 then
        some ((c2236.2.1, c2236.2.2.1, c2236.2.2.2), c2248.2)
      else
        none
  else
    none
def lc_34 (N : Nat) (K : Nat → Nat) (z : Nat) (g gm : GS) (a1 a2 a3 a4 a5 a6 : Int) : Option (S3 × GS) :=
  (xLaw0_drive N 393 K z g a1).bind fun c2292 =>
  (m_drive N gm a1).bind fun c2304 =>
  (m_thrown c2304.2).bind fun c2310 =>
  if w32 c2310 = w32 c2292.1 then
    if ¬ w32 c2292.1 = 0 then
      some ((c2292.2.1, c2292.2.2.1, c2292.2.2.2), c2304.2)
    else
      (rdA c2292.2.2.2 393 1 0).bind fun v2327 =>
      if w32 (l_cmp v2327 (w32 c2304.1)) = 0 then
        some ((c2292.2.1, c2292.2.2.1, c2292.2.2.2), c2304.2)
      else
        none
  else
    none
def lc_35 (N : Nat) (K : Nat → Nat) (z : Nat) (g gm : GS) (a1 a2 a3 a4 a5 a6 : Int) : Option (S3 × GS) :=
  (xLaw0_pumps N 393 K z g a1).bind fun c2348 =>
  (m_pumps N gm a1).bind fun c2360 =>
  (m_thrown c2360.2).bind fun c2366 =>
  if w32 c2366 = w32 c2348.1 then
    if ¬ w32 c2348.1 = 0 then
      some ((c2348.2.1, c2348.2.2.1, c2348.2.2.2), c2360.2)
    else
      (rdA c2348.2.2.2 393 1 0).bind fun v2383 =>
      if w32 (l_cmp v2383 (w32 c2360.1)) = 0 then
        some ((c2348.2.1, c2348.2.2.1, c2348.2.2.2), c2360.2)
      else
        none
  else
    none
def lc_36 (N : Nat) (K : Nat → Nat) (z : Nat) (g gm : GS) (a1 a2 a3 a4 a5 a6 : Int) : Option (S3 × GS) :=
  (xLaw0_odds N 393 K z g a1 a2).bind fun c2410 =>
  (m_odds N gm a1 a2).bind fun c2428 =>
  (m_thrown c2428.2).bind fun c2434 =>
  if w32 c2434 = w32 c2410.1 then
    if ¬ w32 c2410.1 = 0 then
      some ((c2410.2.1, c2410.2.2.1, c2410.2.2.2), c2428.2)
    else
      (rdA c2410.2.2.2 393 1 0).bind fun v2451 =>
      if w32 (l_cmp v2451 c2428.1) = 0 then
        some ((c2410.2.1, c2410.2.2.1, c2410.2.2.2), c2428.2)
      else
        none
  else
    none
def lc_37 (N : Nat) (K : Nat → Nat) (z : Nat) (g gm : GS) (a1 a2 a3 a4 a5 a6 : Int) : Option (S3 × GS) :=
  (x_likeliest N K g).bind fun c2464 =>
  (m_likeliest N gm).bind fun c2468 =>
  if w32 c2464 = w32 c2468.1 then
    some ((K, z, g), c2468.2)
  else
    none
def lc_38 (N : Nat) (K : Nat → Nat) (z : Nat) (g gm : GS) (a1 a2 a3 a4 a5 a6 : Int) : Option (S3 × GS) :=
  (x_ask N K g).bind fun c2477 =>
  (m_ask N gm).bind fun c2481 =>
  if w32 c2477 = w32 c2481.1 then
    some ((K, z, g), c2481.2)
  else
    none
def lc_39 (N : Nat) (K : Nat → Nat) (z : Nat) (g gm : GS) (a1 a2 a3 a4 a5 a6 : Int) : Option (S3 × GS) :=
  (xLaw0_evening N 393 K z g a1 a2).bind fun c2503 =>
  (m_evening N gm a1 a2).bind fun c2521 =>
  (m_thrown c2521.2).bind fun c2527 =>
  if w32 c2527 = w32 c2503.1 then
    if ¬ w32 c2503.1 = 0 then
      some ((c2503.2.1, c2503.2.2.1, c2503.2.2.2), c2521.2)
    else
      (rdA c2503.2.2.2 393 1 0).bind fun v2544 =>
      if w32 (l_cmp v2544 (w32 c2521.1)) = 0 then
        some ((c2503.2.1, c2503.2.2.1, c2503.2.2.2), c2521.2)
      else
        none
  else
    none
def lc_40 (N : Nat) (K : Nat → Nat) (z : Nat) (g gm : GS) (a1 a2 a3 a4 a5 a6 : Int) : Option (S3 × GS) :=
  (xLaw0_evenings N 393 K z g a1 a2 a3).bind fun c2577 =>
  (m_evenings N gm a1 a2 a3).bind fun c2601 =>
  (m_thrown c2601.2).bind fun c2607 =>
  if w32 c2607 = w32 c2577.1 then
    if ¬ w32 c2577.1 = 0 then
      some ((c2577.2.1, c2577.2.2.1, c2577.2.2.2), c2601.2)
    else
      (rdA c2577.2.2.2 393 1 0).bind fun v2624 =>
      if w32 (l_cmp v2624 (w32 c2601.1)) = 0 then
        some ((c2577.2.1, c2577.2.2.1, c2577.2.2.2), c2601.2)
      else
        none
  else
    none
def lc_41 (N : Nat) (K : Nat → Nat) (z : Nat) (g gm : GS) (a1 a2 a3 a4 a5 a6 : Int) : Option (S3 × GS) :=
  (xLaw0_swap 393 K z g a1 a2).bind fun c2651 =>
  (m_swap N gm a1 a2).bind fun c2669 =>
  (m_thrown c2669.2).bind fun c2675 =>
  if w32 c2675 = w32 c2651.1 then
    if ¬ w32 c2651.1 = 0 then
      some ((c2651.2.1, c2651.2.2.1, c2651.2.2.2), c2669.2)
    else
      (rdA c2651.2.2.2 393 1 0).bind fun v2692 =>
      if w32 (l_cmp v2692 (w32 c2669.1)) = 0 then
        some ((c2651.2.1, c2651.2.2.1, c2651.2.2.2), c2669.2)
      else
        none
  else
    none
def lc_42 (N : Nat) (K : Nat → Nat) (z : Nat) (g gm : GS) (a1 a2 a3 a4 a5 a6 : Int) : Option (S3 × GS) :=
  (xLaw0_hand 393 K z g a1 a2).bind fun c2719 =>
  (m_hand N gm a1 a2).bind fun c2737 =>
  (m_thrown c2737.2).bind fun c2743 =>
  if w32 c2743 = w32 c2719.1 then
    if ¬ w32 c2719.1 = 0 then
      some ((c2719.2.1, c2719.2.2.1, c2719.2.2.2), c2737.2)
    else
      (rdA c2719.2.2.2 393 1 0).bind fun v2760 =>
      if w32 (l_cmp v2760 (w32 c2737.1)) = 0 then
        some ((c2719.2.1, c2719.2.2.1, c2719.2.2.2), c2737.2)
      else
        none
  else
    none
def lc_43 (N : Nat) (K : Nat → Nat) (z : Nat) (g gm : GS) (a1 a2 a3 a4 a5 a6 : Int) : Option (S3 × GS) :=
  (xLaw0_drop N 393 K z g a1).bind fun c2781 =>
  (m_drop N gm a1).bind fun c2793 =>
  (m_thrown c2793.2).bind fun c2799 =>
  if w32 c2799 = w32 c2781.1 then
    if ¬ w32 c2781.1 = 0 then
      some ((c2781.2.1, c2781.2.2.1, c2781.2.2.2), c2793.2)
    else
      (rdA c2781.2.2.2 393 1 0).bind fun v2816 =>
      if w32 (l_cmp v2816 (w32 c2793.1)) = 0 then
        some ((c2781.2.1, c2781.2.2.1, c2781.2.2.2), c2793.2)
      else
        none
  else
    none
def lc_44 (N : Nat) (K : Nat → Nat) (z : Nat) (g gm : GS) (a1 a2 a3 a4 a5 a6 : Int) : Option (S3 × GS) :=
  (x_undo K g).bind fun c2830 =>
  (m_undo N gm).bind fun c2834 =>
  if w32 c2830.1 = w32 c2834.1 then
    some ((K, z, c2830.2), c2834.2)
  else
    none
def lc_45 (N : Nat) (K : Nat → Nat) (z : Nat) (g gm : GS) (a1 a2 a3 a4 a5 a6 : Int) : Option (S3 × GS) :=
  (x_image N K g).bind fun c2843 =>
  (m_image N gm).bind fun c2847 =>
  if w32 c2843.1 = w32 c2847.1 then
    some ((K, z, c2843.2), c2847.2)
  else
    none
def lc_46 (N : Nat) (K : Nat → Nat) (z : Nat) (g gm : GS) (a1 a2 a3 a4 a5 a6 : Int) : Option (S3 × GS) :=
  (x_restore N K g).bind fun c2856 =>
  (m_restore N gm).bind fun c2860 =>
  if w32 c2856.1 = w32 c2860.1 then
    some ((K, z, c2856.2), c2860.2)
  else
    none
def lc_47 (N : Nat) (K : Nat → Nat) (z : Nat) (g gm : GS) (a1 a2 a3 a4 a5 a6 : Int) : Option (S3 × GS) :=
  (x_status g a1).bind fun c2875 =>
  (m_status gm a1).bind fun c2885 =>
  if w32 c2875 = w32 c2885.1 then
    some ((K, z, g), c2885.2)
  else
    none
def lc_48 (N : Nat) (K : Nat → Nat) (z : Nat) (g gm : GS) (a1 a2 a3 a4 a5 a6 : Int) : Option (S3 × GS) :=
  (x_count g a1).bind fun c2900 =>
  (m_count gm a1).bind fun c2910 =>
  if w32 c2900 = w32 c2910.1 then
    some ((K, z, g), c2910.2)
  else
    none
/-- one call of the law: v its kind -/
def lcI (v : Int) (N : Nat) (K : Nat → Nat) (z : Nat) (g gm : GS) (a1 a2 a3 a4 a5 a6 : Int) : Option (S3 × GS) :=
  if w32 v = 0 then lc_0 N K z g gm a1 a2 a3 a4 a5 a6 else
  if w32 v = 1 then lc_1 N K z g gm a1 a2 a3 a4 a5 a6 else
  if w32 v = 2 then lc_2 N K z g gm a1 a2 a3 a4 a5 a6 else
  if w32 v = 3 then lc_3 N K z g gm a1 a2 a3 a4 a5 a6 else
  if w32 v = 4 then lc_4 N K z g gm a1 a2 a3 a4 a5 a6 else
  if w32 v = 5 then lc_5 N K z g gm a1 a2 a3 a4 a5 a6 else
  if w32 v = 6 then lc_6 N K z g gm a1 a2 a3 a4 a5 a6 else
  if w32 v = 7 then lc_7 N K z g gm a1 a2 a3 a4 a5 a6 else
  if w32 v = 8 then lc_8 N K z g gm a1 a2 a3 a4 a5 a6 else
  if w32 v = 9 then lc_9 N K z g gm a1 a2 a3 a4 a5 a6 else
  if w32 v = 10 then lc_10 N K z g gm a1 a2 a3 a4 a5 a6 else
  if w32 v = 11 then lc_11 N K z g gm a1 a2 a3 a4 a5 a6 else
  if w32 v = 12 then lc_12 N K z g gm a1 a2 a3 a4 a5 a6 else
  if w32 v = 13 then lc_13 N K z g gm a1 a2 a3 a4 a5 a6 else
  if w32 v = 14 then lc_14 N K z g gm a1 a2 a3 a4 a5 a6 else
  if w32 v = 15 then lc_15 N K z g gm a1 a2 a3 a4 a5 a6 else
  if w32 v = 16 then lc_16 N K z g gm a1 a2 a3 a4 a5 a6 else
  if w32 v = 17 then lc_17 N K z g gm a1 a2 a3 a4 a5 a6 else
  if w32 v = 18 then lc_18 N K z g gm a1 a2 a3 a4 a5 a6 else
  if w32 v = 19 then lc_19 N K z g gm a1 a2 a3 a4 a5 a6 else
  if w32 v = 20 then lc_20 N K z g gm a1 a2 a3 a4 a5 a6 else
  if w32 v = 21 then lc_21 N K z g gm a1 a2 a3 a4 a5 a6 else
  if w32 v = 22 then lc_22 N K z g gm a1 a2 a3 a4 a5 a6 else
  if w32 v = 23 then lc_23 N K z g gm a1 a2 a3 a4 a5 a6 else
  if w32 v = 24 then lc_24 N K z g gm a1 a2 a3 a4 a5 a6 else
  if w32 v = 25 then lc_25 N K z g gm a1 a2 a3 a4 a5 a6 else
  if w32 v = 26 then lc_26 N K z g gm a1 a2 a3 a4 a5 a6 else
  if w32 v = 27 then lc_27 N K z g gm a1 a2 a3 a4 a5 a6 else
  if w32 v = 28 then lc_28 N K z g gm a1 a2 a3 a4 a5 a6 else
  if w32 v = 29 then lc_29 N K z g gm a1 a2 a3 a4 a5 a6 else
  if w32 v = 30 then lc_30 N K z g gm a1 a2 a3 a4 a5 a6 else
  if w32 v = 31 then lc_31 N K z g gm a1 a2 a3 a4 a5 a6 else
  if w32 v = 32 then lc_32 N K z g gm a1 a2 a3 a4 a5 a6 else
  if w32 v = 33 then lc_33 N K z g gm a1 a2 a3 a4 a5 a6 else
  if w32 v = 34 then lc_34 N K z g gm a1 a2 a3 a4 a5 a6 else
  if w32 v = 35 then lc_35 N K z g gm a1 a2 a3 a4 a5 a6 else
  if w32 v = 36 then lc_36 N K z g gm a1 a2 a3 a4 a5 a6 else
  if w32 v = 37 then lc_37 N K z g gm a1 a2 a3 a4 a5 a6 else
  if w32 v = 38 then lc_38 N K z g gm a1 a2 a3 a4 a5 a6 else
  if w32 v = 39 then lc_39 N K z g gm a1 a2 a3 a4 a5 a6 else
  if w32 v = 40 then lc_40 N K z g gm a1 a2 a3 a4 a5 a6 else
  if w32 v = 41 then lc_41 N K z g gm a1 a2 a3 a4 a5 a6 else
  if w32 v = 42 then lc_42 N K z g gm a1 a2 a3 a4 a5 a6 else
  if w32 v = 43 then lc_43 N K z g gm a1 a2 a3 a4 a5 a6 else
  if w32 v = 44 then lc_44 N K z g gm a1 a2 a3 a4 a5 a6 else
  if w32 v = 45 then lc_45 N K z g gm a1 a2 a3 a4 a5 a6 else
  if w32 v = 46 then lc_46 N K z g gm a1 a2 a3 a4 a5 a6 else
  if w32 v = 47 then lc_47 N K z g gm a1 a2 a3 a4 a5 a6 else
  if w32 v = 48 then lc_48 N K z g gm a1 a2 a3 a4 a5 a6 else
  some ((K, z, g), gm)
