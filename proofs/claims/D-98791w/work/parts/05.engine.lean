/-! ENGINE 2: the world of cells by birth numbers, and one instruction's laws over it -/
set_option maxRecDepth 100000
def strL : List (String × Nat × String × List Int) := [("RainWheel$LawReader", 11, "minutes", [109, 105, 110, 117, 116, 101, 115]), ("RainWheel$LawReader", 13, "hands", [104, 97, 110, 100, 115]), ("RainWheel$LawReader", 15, "strong", [115, 116, 114, 111, 110, 103]), ("RainWheel$LawReader", 17, "rain", [114, 97, 105, 110]), ("RainWheel$LawReader", 19, "minute", [109, 105, 110, 117, 116, 101]), ("RainWheel$LawReader", 21, "out", [111, 117, 116]), ("RainWheel$LawReader", 57, "least", [108, 101, 97, 115, 116]), ("RainWheel$LawReader", 63, "most", [109, 111, 115, 116]), ("RainWheel$RoadReader", 11, "person", [112, 101, 114, 115, 111, 110]), ("RainWheel$RoadReader", 13, "deed", [100, 101, 101, 100]), ("RainWheel$RoadReader", 15, "rain", [114, 97, 105, 110]), ("RainWheel$RoadReader", 17, "board", [98, 111, 97, 114, 100]), ("RainWheel$RoadReader", 19, "nut", [110, 117, 116]), ("RainWheel$RoadReader", 21, "cause", [99, 97, 117, 115, 101]), ("RainWheel$RoadReader", 23, "needs", [110, 101, 101, 100, 115]), ("RainWheel$RoadReader", 25, "yard", [121, 97, 114, 100]), ("RainWheel$RoadReader", 27, "load", [108, 111, 97, 100]), ("RainWheel$RoadReader", 29, "stops", [115, 116, 111, 112, 115]), ("RainWheel$RoadReader", 31, "loses", [108, 111, 115, 101, 115]), ("RainWheel$RoadReader", 33, "soft", [115, 111, 102, 116]), ("RainWheelModel", 248, "person", [112, 101, 114, 115, 111, 110]), ("RainWheelModel", 258, "deed", [100, 101, 101, 100]), ("RainWheelModel", 259, "board", [98, 111, 97, 114, 100]), ("RainWheelModel", 260, "nut", [110, 117, 116]), ("RainWheelModel", 261, "needs", [110, 101, 101, 100, 115]), ("RainWheelModel", 263, "rain", [114, 97, 105, 110]), ("RainWheelModel", 264, "yard", [121, 97, 114, 100]), ("RainWheelModel", 266, "load", [108, 111, 97, 100]), ("RainWheelModel", 268, "stops", [115, 116, 111, 112, 115]), ("RainWheelModel", 270, "loses", [108, 111, 115, 101, 115]), ("RainWheelModel", 272, "cause", [99, 97, 117, 115, 101]), ("RainWheelModel", 273, "soft", [115, 111, 102, 116]), ("RainWheelModel", 331, "minutes", [109, 105, 110, 117, 116, 101, 115]), ("RainWheelModel", 337, "hands", [104, 97, 110, 100, 115]), ("RainWheelModel", 339, "strong", [115, 116, 114, 111, 110, 103]), ("RainWheelModel", 340, "minute", [109, 105, 110, 117, 116, 101]), ("RainWheelModel", 342, "out", [111, 117, 116]), ("RainWheelModel", 344, "least", [108, 101, 97, 115, 116]), ("RainWheelModel", 349, "most", [109, 111, 115, 116])]
def str_ (i : Nat) : String × Nat × String × List Int := strL.getD i ("", 0, "", [])
def sto (i : Nat) : String := (str_ i).1
def stk (i : Nat) : Nat := (str_ i).2.1
def sts (i : Nat) : String := (str_ i).2.2.1
def stx (i : Nat) : List Int := (str_ i).2.2.2
def stm (i : Nat) : Term := .string (sto i) (stk i)
def stPL : List (List (List Nat)) := [[[1, 0, 1, 1, 1, 1, 0, 0, 0, 1], [1, 0, 1, 1, 1, 1, 0, 0, 1, 0], [1, 0, 1, 1, 1, 1, 0, 0, 1, 1], [1, 0, 1, 1, 1, 1, 0, 1, 0, 0], [1, 0, 1, 1, 1, 1, 0, 1, 0, 1], [1, 0, 1, 1, 1, 1, 0, 1, 1, 0], [1, 0, 1, 1, 1, 1, 0, 1, 1, 1], [1, 0, 1, 1, 1, 1, 1, 0, 0, 0], [1, 0, 1, 1, 1, 1, 1, 0, 0, 1], [1, 0, 1, 1, 1, 1, 1, 0, 1, 0], [1, 0, 1, 1, 1, 1, 1, 0, 1, 1]],
  [[1, 0, 1, 1, 1, 1, 1, 1, 0, 0], [1, 0, 1, 1, 1, 1, 1, 1, 0, 1], [1, 0, 1, 1, 1, 1, 1, 1, 1, 0], [1, 0, 1, 1, 1, 1, 1, 1, 1, 1], [1, 1, 0, 0, 0, 0, 0, 0, 0], [1, 1, 0, 0, 0, 0, 0, 0, 1, 0], [1, 1, 0, 0, 0, 0, 0, 0, 1, 1], [1, 1, 0, 0, 0, 0, 0, 1, 0, 0], [1, 1, 0, 0, 0, 0, 0, 1, 0, 1]],
  [[1, 1, 0, 0, 0, 0, 0, 1, 1, 0], [1, 1, 0, 0, 0, 0, 0, 1, 1, 1], [1, 1, 0, 0, 0, 0, 1, 0, 0, 0], [1, 1, 0, 0, 0, 0, 1, 0, 0, 1], [1, 1, 0, 0, 0, 0, 1, 0, 1, 0], [1, 1, 0, 0, 0, 0, 1, 0, 1, 1], [1, 1, 0, 0, 0, 0, 1, 1, 0, 0], [1, 1, 0, 0, 0, 0, 1, 1, 0, 1], [1, 1, 0, 0, 0, 0, 1, 1, 1, 0], [1, 1, 0, 0, 0, 0, 1, 1, 1, 1]],
  [[1, 1, 0, 0, 0, 1, 0, 0, 0], [1, 1, 0, 0, 0, 1, 0, 0, 1, 0], [1, 1, 0, 0, 0, 1, 0, 0, 1, 1], [1, 1, 0, 0, 0, 1, 0, 1, 0, 0], [1, 1, 0, 0, 0, 1, 0, 1, 0, 1], [1, 1, 0, 0, 0, 1, 0, 1, 1, 0], [1, 1, 0, 0, 0, 1, 0, 1, 1, 1], [1, 1, 0, 0, 0, 1, 1, 0, 0, 0]],
  [[1, 1, 0, 0, 0, 1, 1, 0, 1, 0], [1, 1, 0, 0, 0, 1, 1, 0, 1, 1], [1, 1, 0, 0, 0, 1, 1, 1, 0, 0], [1, 1, 0, 0, 0, 1, 1, 1, 0, 1], [1, 1, 0, 0, 0, 1, 1, 1, 1, 0], [1, 1, 0, 0, 0, 1, 1, 1, 1, 1], [1, 1, 0, 0, 1, 0, 0, 0, 0], [1, 1, 0, 0, 1, 0, 0, 0, 1, 0], [1, 1, 0, 0, 1, 0, 0, 0, 1, 1], [1, 1, 0, 0, 1, 0, 0, 1, 0, 0]],
  [[1, 1, 0, 0, 1, 0, 0, 1, 0, 1], [1, 1, 0, 0, 1, 0, 0, 1, 1, 0], [1, 1, 0, 0, 1, 0, 0, 1, 1, 1], [1, 1, 0, 0, 1, 0, 1, 0, 0, 0], [1, 1, 0, 0, 1, 0, 1, 0, 0, 1], [1, 1, 0, 0, 1, 0, 1, 0, 1, 0], [1, 1, 0, 0, 1, 0, 1, 0, 1, 1]],
  [[1, 1, 0, 0, 1, 0, 1, 1, 0, 0], [1, 1, 0, 0, 1, 0, 1, 1, 0, 1], [1, 1, 0, 0, 1, 0, 1, 1, 1, 0], [1, 1, 0, 0, 1, 0, 1, 1, 1, 1], [1, 1, 0, 0, 1, 1, 0, 0, 0, 0], [1, 1, 0, 0, 1, 1, 0, 0, 0, 1], [1, 1, 0, 0, 1, 1, 0, 0, 1, 0], [1, 1, 0, 0, 1, 1, 0, 0, 1, 1], [1, 1, 0, 0, 1, 1, 0, 1, 0, 0]],
  [[1, 1, 0, 0, 1, 1, 0, 1, 0, 1], [1, 1, 0, 0, 1, 1, 0, 1, 1, 0], [1, 1, 0, 0, 1, 1, 0, 1, 1, 1], [1, 1, 0, 0, 1, 1, 1, 0, 0, 0], [1, 1, 0, 0, 1, 1, 1, 0, 0, 1], [1, 1, 0, 0, 1, 1, 1, 0, 1, 0], [1, 1, 0, 0, 1, 1, 1, 0, 1, 1], [1, 1, 0, 0, 1, 1, 1, 1, 0, 0]],
  [[1, 0, 1, 0, 0, 0, 0, 1, 1, 0], [1, 0, 1, 0, 0, 0, 0, 1, 1, 1], [1, 0, 1, 0, 0, 0, 1, 0, 0, 0], [1, 0, 1, 0, 0, 0, 1, 0, 0, 1], [1, 0, 1, 0, 0, 0, 1, 0, 1, 0], [1, 0, 1, 0, 0, 0, 1, 0, 1, 1], [1, 0, 1, 0, 0, 0, 1, 1, 0, 0], [1, 0, 1, 0, 0, 0, 1, 1, 0, 1], [1, 0, 1, 0, 0, 0, 1, 1, 1, 0], [1, 0, 1, 0, 0, 0, 1, 1, 1, 1]],
  [[1, 0, 1, 0, 0, 1, 0, 0, 0], [1, 0, 1, 0, 0, 1, 0, 0, 1, 0], [1, 0, 1, 0, 0, 1, 0, 0, 1, 1], [1, 0, 1, 0, 0, 1, 0, 1, 0, 0], [1, 0, 1, 0, 0, 1, 0, 1, 0, 1], [1, 0, 1, 0, 0, 1, 0, 1, 1, 0], [1, 0, 1, 0, 0, 1, 0, 1, 1, 1], [1, 0, 1, 0, 0, 1, 1, 0, 0, 0]],
  [[1, 0, 1, 0, 0, 1, 1, 0, 0, 1], [1, 0, 1, 0, 0, 1, 1, 0, 1, 0], [1, 0, 1, 0, 0, 1, 1, 0, 1, 1], [1, 0, 1, 0, 0, 1, 1, 1, 0, 0], [1, 0, 1, 0, 0, 1, 1, 1, 0, 1], [1, 0, 1, 0, 0, 1, 1, 1, 1, 0], [1, 0, 1, 0, 0, 1, 1, 1, 1, 1], [1, 0, 1, 0, 1, 0, 0, 0, 0]],
  [[1, 0, 1, 0, 1, 0, 0, 0, 1, 0], [1, 0, 1, 0, 1, 0, 0, 0, 1, 1], [1, 0, 1, 0, 1, 0, 0, 1, 0, 0], [1, 0, 1, 0, 1, 0, 0, 1, 0, 1], [1, 0, 1, 0, 1, 0, 0, 1, 1, 0], [1, 0, 1, 0, 1, 0, 0, 1, 1, 1], [1, 0, 1, 0, 1, 0, 1, 0, 0, 0], [1, 0, 1, 0, 1, 0, 1, 0, 0, 1], [1, 0, 1, 0, 1, 0, 1, 0, 1, 0]],
  [[1, 0, 1, 0, 1, 0, 1, 0, 1, 1], [1, 0, 1, 0, 1, 0, 1, 1, 0, 0], [1, 0, 1, 0, 1, 0, 1, 1, 0, 1], [1, 0, 1, 0, 1, 0, 1, 1, 1, 0], [1, 0, 1, 0, 1, 0, 1, 1, 1, 1], [1, 0, 1, 0, 1, 1, 0, 0, 0, 0], [1, 0, 1, 0, 1, 1, 0, 0, 0, 1]],
  [[1, 0, 1, 0, 1, 1, 0, 0, 1, 0], [1, 0, 1, 0, 1, 1, 0, 0, 1, 1], [1, 0, 1, 0, 1, 1, 0, 1, 0, 0], [1, 0, 1, 0, 1, 1, 0, 1, 0, 1], [1, 0, 1, 0, 1, 1, 0, 1, 1, 0], [1, 0, 1, 0, 1, 1, 0, 1, 1, 1], [1, 0, 1, 0, 1, 1, 1, 0, 0, 0], [1, 0, 1, 0, 1, 1, 1, 0, 0, 1], [1, 0, 1, 0, 1, 1, 1, 0, 1, 0]],
  [[1, 0, 1, 0, 1, 1, 1, 0, 1, 1], [1, 0, 1, 0, 1, 1, 1, 1, 0, 0], [1, 0, 1, 0, 1, 1, 1, 1, 0, 1], [1, 0, 1, 0, 1, 1, 1, 1, 1, 0], [1, 0, 1, 0, 1, 1, 1, 1, 1, 1], [1, 0, 1, 1, 0, 0, 0, 0, 0], [1, 0, 1, 1, 0, 0, 0, 0, 1, 0], [1, 0, 1, 1, 0, 0, 0, 0, 1, 1], [1, 0, 1, 1, 0, 0, 0, 1, 0, 0]],
  [[1, 0, 1, 1, 0, 0, 0, 1, 0, 1], [1, 0, 1, 1, 0, 0, 0, 1, 1, 0], [1, 0, 1, 1, 0, 0, 0, 1, 1, 1], [1, 0, 1, 1, 0, 0, 1, 0, 0, 0], [1, 0, 1, 1, 0, 0, 1, 0, 0, 1], [1, 0, 1, 1, 0, 0, 1, 0, 1, 0], [1, 0, 1, 1, 0, 0, 1, 0, 1, 1], [1, 0, 1, 1, 0, 0, 1, 1, 0, 0]],
  [[1, 0, 1, 1, 0, 0, 1, 1, 0, 1], [1, 0, 1, 1, 0, 0, 1, 1, 1, 0], [1, 0, 1, 1, 0, 0, 1, 1, 1, 1], [1, 0, 1, 1, 0, 1, 0, 0, 0], [1, 0, 1, 1, 0, 1, 0, 0, 1, 0], [1, 0, 1, 1, 0, 1, 0, 0, 1, 1], [1, 0, 1, 1, 0, 1, 0, 1, 0, 0], [1, 0, 1, 1, 0, 1, 0, 1, 0, 1]],
  [[1, 0, 1, 1, 0, 1, 0, 1, 1, 0], [1, 0, 1, 1, 0, 1, 0, 1, 1, 1], [1, 0, 1, 1, 0, 1, 1, 0, 0, 0], [1, 0, 1, 1, 0, 1, 1, 0, 0, 1], [1, 0, 1, 1, 0, 1, 1, 0, 1, 0], [1, 0, 1, 1, 0, 1, 1, 0, 1, 1], [1, 0, 1, 1, 0, 1, 1, 1, 0, 0], [1, 0, 1, 1, 0, 1, 1, 1, 0, 1], [1, 0, 1, 1, 0, 1, 1, 1, 1, 0]],
  [[1, 0, 1, 1, 0, 1, 1, 1, 1, 1], [1, 0, 1, 1, 1, 0, 0, 0, 0], [1, 0, 1, 1, 1, 0, 0, 0, 1, 0], [1, 0, 1, 1, 1, 0, 0, 0, 1, 1], [1, 0, 1, 1, 1, 0, 0, 1, 0, 0], [1, 0, 1, 1, 1, 0, 0, 1, 0, 1], [1, 0, 1, 1, 1, 0, 0, 1, 1, 0], [1, 0, 1, 1, 1, 0, 0, 1, 1, 1], [1, 0, 1, 1, 1, 0, 1, 0, 0, 0]],
  [[1, 0, 1, 1, 1, 0, 1, 0, 0, 1], [1, 0, 1, 1, 1, 0, 1, 0, 1, 0], [1, 0, 1, 1, 1, 0, 1, 0, 1, 1], [1, 0, 1, 1, 1, 0, 1, 1, 0, 0], [1, 0, 1, 1, 1, 0, 1, 1, 0, 1], [1, 0, 1, 1, 1, 0, 1, 1, 1, 0], [1, 0, 1, 1, 1, 0, 1, 1, 1, 1], [1, 0, 1, 1, 1, 1, 0, 0, 0, 0]],
  [[1, 1, 0, 0, 1, 1, 1, 1, 0, 1], [1, 1, 0, 0, 1, 1, 1, 1, 1, 0], [1, 1, 0, 0, 1, 1, 1, 1, 1, 1], [1, 1, 0, 1, 0, 0, 0, 0, 0], [1, 1, 0, 1, 0, 0, 0, 0, 1, 0], [1, 1, 0, 1, 0, 0, 0, 0, 1, 1], [1, 1, 0, 1, 0, 0, 0, 1, 0, 0], [1, 1, 0, 1, 0, 0, 0, 1, 0, 1], [1, 1, 0, 1, 0, 0, 0, 1, 1, 0], [1, 1, 0, 1, 0, 0, 0, 1, 1, 1]],
  [[1, 1, 0, 1, 0, 0, 1, 0, 0, 1], [1, 1, 0, 1, 0, 0, 1, 0, 1, 0], [1, 1, 0, 1, 0, 0, 1, 0, 1, 1], [1, 1, 0, 1, 0, 0, 1, 1, 0, 0], [1, 1, 0, 1, 0, 0, 1, 1, 0, 1], [1, 1, 0, 1, 0, 0, 1, 1, 1, 0], [1, 1, 0, 1, 0, 0, 1, 1, 1, 1], [1, 1, 0, 1, 0, 1, 0, 0, 0]],
  [[1, 1, 0, 1, 0, 1, 0, 0, 1, 1], [1, 1, 0, 1, 0, 1, 0, 1, 0, 0], [1, 1, 0, 1, 0, 1, 0, 1, 0, 1], [1, 1, 0, 1, 0, 1, 0, 1, 1, 0], [1, 1, 0, 1, 0, 1, 0, 1, 1, 1], [1, 1, 0, 1, 0, 1, 1, 0, 0, 0], [1, 1, 0, 1, 0, 1, 1, 0, 0, 1], [1, 1, 0, 1, 0, 1, 1, 0, 1, 0], [1, 1, 0, 1, 0, 1, 1, 0, 1, 1]],
  [[1, 1, 0, 1, 0, 1, 1, 1, 0, 1], [1, 1, 0, 1, 0, 1, 1, 1, 1, 0], [1, 1, 0, 1, 0, 1, 1, 1, 1, 1], [1, 1, 0, 1, 1, 0, 0, 0, 0], [1, 1, 0, 1, 1, 0, 0, 0, 1, 0], [1, 1, 0, 1, 1, 0, 0, 0, 1, 1], [1, 1, 0, 1, 1, 0, 0, 1, 0, 0]],
  [[1, 1, 0, 1, 1, 1, 0, 0, 0, 0], [1, 1, 0, 1, 1, 1, 0, 0, 0, 1], [1, 1, 0, 1, 1, 1, 0, 0, 1, 0], [1, 1, 0, 1, 1, 1, 0, 0, 1, 1], [1, 1, 0, 1, 1, 1, 0, 1, 0, 0], [1, 1, 0, 1, 1, 1, 0, 1, 0, 1], [1, 1, 0, 1, 1, 1, 0, 1, 1, 0], [1, 1, 0, 1, 1, 1, 0, 1, 1, 1], [1, 1, 0, 1, 1, 1, 1, 0, 0, 0]],
  [[1, 1, 0, 1, 1, 1, 1, 0, 1, 0], [1, 1, 0, 1, 1, 1, 1, 0, 1, 1], [1, 1, 0, 1, 1, 1, 1, 1, 0, 0], [1, 1, 0, 1, 1, 1, 1, 1, 0, 1], [1, 1, 0, 1, 1, 1, 1, 1, 1, 0], [1, 1, 0, 1, 1, 1, 1, 1, 1, 1], [1, 1, 1, 0, 0, 0, 0, 0, 0], [1, 1, 1, 0, 0, 0, 0, 0, 1, 0]],
  [[1, 1, 1, 0, 0, 0, 0, 1, 0, 1], [1, 1, 1, 0, 0, 0, 0, 1, 1, 0], [1, 1, 1, 0, 0, 0, 0, 1, 1, 1], [1, 1, 1, 0, 0, 0, 1, 0, 0, 0], [1, 1, 1, 0, 0, 0, 1, 0, 0, 1], [1, 1, 1, 0, 0, 0, 1, 0, 1, 0], [1, 1, 1, 0, 0, 0, 1, 0, 1, 1], [1, 1, 1, 0, 0, 0, 1, 1, 0, 0]],
  [[1, 1, 1, 0, 0, 0, 1, 1, 1, 0], [1, 1, 1, 0, 0, 0, 1, 1, 1, 1], [1, 1, 1, 0, 0, 1, 0, 0, 0], [1, 1, 1, 0, 0, 1, 0, 0, 1, 0], [1, 1, 1, 0, 0, 1, 0, 0, 1, 1], [1, 1, 1, 0, 0, 1, 0, 1, 0, 0], [1, 1, 1, 0, 0, 1, 0, 1, 0, 1], [1, 1, 1, 0, 0, 1, 0, 1, 1, 0]],
  [[1, 1, 1, 0, 0, 1, 1, 0, 0, 0], [1, 1, 1, 0, 0, 1, 1, 0, 0, 1], [1, 1, 1, 0, 0, 1, 1, 0, 1, 0], [1, 1, 1, 0, 0, 1, 1, 0, 1, 1], [1, 1, 1, 0, 0, 1, 1, 1, 0, 0], [1, 1, 1, 0, 0, 1, 1, 1, 0, 1], [1, 1, 1, 0, 0, 1, 1, 1, 1, 0], [1, 1, 1, 0, 0, 1, 1, 1, 1, 1], [1, 1, 1, 0, 1, 0, 0, 0, 0]],
  [[1, 1, 1, 0, 1, 0, 0, 0, 1, 1], [1, 1, 1, 0, 1, 0, 0, 1, 0, 0], [1, 1, 1, 0, 1, 0, 0, 1, 0, 1], [1, 1, 1, 0, 1, 0, 0, 1, 1, 0], [1, 1, 1, 0, 1, 0, 0, 1, 1, 1], [1, 1, 1, 0, 1, 0, 1, 0, 0, 0], [1, 1, 1, 0, 1, 0, 1, 0, 0, 1], [1, 1, 1, 0, 1, 0, 1, 0, 1, 0], [1, 1, 1, 0, 1, 0, 1, 0, 1, 1]],
  [[1, 1, 0, 1, 1, 0, 0, 1, 1, 0], [1, 1, 0, 1, 1, 0, 0, 1, 1, 1], [1, 1, 0, 1, 1, 0, 1, 0, 0, 0], [1, 1, 0, 1, 1, 0, 1, 0, 0, 1], [1, 1, 0, 1, 1, 0, 1, 0, 1, 0], [1, 1, 0, 1, 1, 0, 1, 0, 1, 1], [1, 1, 0, 1, 1, 0, 1, 1, 0, 0], [1, 1, 0, 1, 1, 0, 1, 1, 0, 1], [1, 1, 0, 1, 1, 0, 1, 1, 1, 0]],
  [[1, 1, 1, 0, 1, 0, 1, 1, 0, 1], [1, 1, 1, 0, 1, 0, 1, 1, 1, 0], [1, 1, 1, 0, 1, 0, 1, 1, 1, 1], [1, 1, 1, 0, 1, 1, 0, 0, 0, 0], [1, 1, 1, 0, 1, 1, 0, 0, 0, 1], [1, 1, 1, 0, 1, 1, 0, 0, 1, 0], [1, 1, 1, 0, 1, 1, 0, 0, 1, 1], [1, 1, 1, 0, 1, 1, 0, 1, 0, 0]],
  [[1, 1, 1, 1, 0, 0, 1, 0, 1, 0], [1, 1, 1, 1, 0, 0, 1, 0, 1, 1], [1, 1, 1, 1, 0, 0, 1, 1, 0, 0], [1, 1, 1, 1, 0, 0, 1, 1, 0, 1], [1, 1, 1, 1, 0, 0, 1, 1, 1, 0], [1, 1, 1, 1, 0, 0, 1, 1, 1, 1], [1, 1, 1, 1, 0, 1, 0, 0, 0], [1, 1, 1, 1, 0, 1, 0, 0, 1, 0], [1, 1, 1, 1, 0, 1, 0, 0, 1, 1], [1, 1, 1, 1, 0, 1, 0, 1, 0, 0], [1, 1, 1, 1, 0, 1, 0, 1, 0, 1]],
  [[1, 1, 1, 1, 0, 1, 0, 1, 1, 1], [1, 1, 1, 1, 0, 1, 1, 0, 0, 0], [1, 1, 1, 1, 0, 1, 1, 0, 0, 1], [1, 1, 1, 1, 0, 1, 1, 0, 1, 0], [1, 1, 1, 1, 0, 1, 1, 0, 1, 1], [1, 1, 1, 1, 0, 1, 1, 1, 0, 0], [1, 1, 1, 1, 0, 1, 1, 1, 0, 1], [1, 1, 1, 1, 0, 1, 1, 1, 1, 0], [1, 1, 1, 1, 0, 1, 1, 1, 1, 1]],
  [[1, 1, 1, 1, 1, 0, 0, 0, 1, 0], [1, 1, 1, 1, 1, 0, 0, 0, 1, 1], [1, 1, 1, 1, 1, 0, 0, 1, 0, 0], [1, 1, 1, 1, 1, 0, 0, 1, 0, 1], [1, 1, 1, 1, 1, 0, 0, 1, 1, 0], [1, 1, 1, 1, 1, 0, 0, 1, 1, 1], [1, 1, 1, 1, 1, 0, 1, 0, 0, 0], [1, 1, 1, 1, 1, 0, 1, 0, 0, 1], [1, 1, 1, 1, 1, 0, 1, 0, 1, 0], [1, 1, 1, 1, 1, 0, 1, 0, 1, 1]],
  [[1, 1, 1, 1, 1, 0, 1, 1, 0, 1], [1, 1, 1, 1, 1, 0, 1, 1, 1, 0], [1, 1, 1, 1, 1, 0, 1, 1, 1, 1], [1, 1, 1, 1, 1, 1, 0, 0, 0, 0], [1, 1, 1, 1, 1, 1, 0, 0, 0, 1], [1, 1, 1, 1, 1, 1, 0, 0, 1, 0], [1, 1, 1, 1, 1, 1, 0, 0, 1, 1], [1, 1, 1, 1, 1, 1, 0, 1, 0, 0], [1, 1, 1, 1, 1, 1, 0, 1, 0, 1], [1, 1, 1, 1, 1, 1, 0, 1, 1, 0]],
  [[1, 1, 1, 1, 1, 1, 1, 0, 0, 0], [1, 1, 1, 1, 1, 1, 1, 0, 0, 1], [1, 1, 1, 1, 1, 1, 1, 0, 1, 0], [1, 1, 1, 1, 1, 1, 1, 0, 1, 1], [1, 1, 1, 1, 1, 1, 1, 1, 0, 0], [1, 1, 1, 1, 1, 1, 1, 1, 0, 1], [1, 1, 1, 1, 1, 1, 1, 1, 1, 0]],
  [[1, 1, 1, 0, 1, 1, 0, 1, 1, 0], [1, 1, 1, 0, 1, 1, 0, 1, 1, 1], [1, 1, 1, 0, 1, 1, 1, 0, 0, 0], [1, 1, 1, 0, 1, 1, 1, 0, 0, 1], [1, 1, 1, 0, 1, 1, 1, 0, 1, 0], [1, 1, 1, 0, 1, 1, 1, 0, 1, 1], [1, 1, 1, 0, 1, 1, 1, 1, 0, 0], [1, 1, 1, 0, 1, 1, 1, 1, 0, 1], [1, 1, 1, 0, 1, 1, 1, 1, 1, 0]],
  [[1, 1, 1, 1, 0, 0, 0, 0, 0], [1, 1, 1, 1, 0, 0, 0, 0, 1, 0], [1, 1, 1, 1, 0, 0, 0, 0, 1, 1], [1, 1, 1, 1, 0, 0, 0, 1, 0, 0], [1, 1, 1, 1, 0, 0, 0, 1, 0, 1], [1, 1, 1, 1, 0, 0, 0, 1, 1, 0], [1, 1, 1, 1, 0, 0, 0, 1, 1, 1], [1, 1, 1, 1, 0, 0, 1, 0, 0, 0]]]
def stP (i k : Nat) : List Nat := (stPL.getD i []).getD k []
def clT : List vw_C := [(RX1, TX1, 18), (RX2, TX2, 1), (RX3, TX3, 3), (RX4, TX4, 15), (RX5, TX5, 6), (RX6, TX6, 7), (RX7, TX7, 4), (RX8, TX8, 4), (RX9, TX9, 24), (RX10, TX10, 73), (RX11, TX11, 4), (RX12, TX12, 4), (RX13, TX13, 8), (RX14, TX14, 2), (RX15, TX15, 3), (RX16, TX16, 1), (RX17, TX17, 1), (RX1, TX1, 18), (RX2, TX2, 1), (RX3, TX3, 3), (RX4, TX4, 15), (RX5, TX5, 6), (RX6, TX6, 7), (RX7, TX7, 4), (RX8, TX8, 4), (RX9, TX9, 24), (RX10, TX10, 73), (RX11, TX11, 4), (RX12, TX12, 4), (RX13, TX13, 8), (RX14, TX14, 2), (RX15, TX15, 3), (RX16, TX16, 1), (RX17, TX17, 1)]
def ltab : List (List (Nat × Nat)) := [[(1, 1), (1, 2), (1, 3), (1, 6), (1, 7), (1, 11), (1, 12), (1, 13), (1, 14), (1, 22), (1, 76), (1, 78), (3, 0), (0, 0), (0, 0), (0, 0), (0, 0), (0, 0)], [(3, 0)], [(1, 1), (1, 2), (0, 0)], [(1, 1), (1, 2), (1, 3), (1, 4), (1, 5), (1, 6), (1, 7), (2, 2), (3, 0), (0, 0), (0, 0), (0, 0), (0, 0), (0, 0), (0, 0)], [(0, 0), (0, 0), (0, 0), (0, 0), (0, 0), (0, 0)], [(1, 1), (1, 2), (1, 3), (1, 4), (1, 5), (0, 0), (0, 0)], [(1, 1), (0, 0), (0, 0), (0, 0)], [(1, 1), (1, 2), (1, 3), (1, 4)], [(1, 1), (1, 2), (1, 3), (1, 4), (1, 5), (1, 6), (1, 7), (1, 8), (1, 9), (1, 10), (1, 11), (1, 12), (1, 13), (0, 0), (0, 0), (0, 0), (0, 0), (0, 0), (0, 0), (0, 0), (0, 0), (0, 0), (0, 0), (0, 0)], [(0, 0), (1, 1), (0, 0), (0, 0), (0, 0), (0, 0), (0, 0), (0, 0), (0, 0), (1, 2), (1, 3), (1, 4), (1, 5), (1, 6), (1, 7), (1, 8), (1, 9), (1, 10), (1, 11), (1, 12), (1, 13), (1, 14), (1, 15), (1, 16), (1, 17), (1, 18), (0, 0), (0, 0), (0, 0), (0, 0), (0, 0), (0, 0), (0, 0), (0, 0), (0, 0), (0, 0), (0, 0), (1, 19), (1, 20), (1, 21), (1, 22), (1, 23), (0, 0), (0, 0), (1, 24), (1, 25), (1, 26), (1, 27), (1, 28), (0, 0), (0, 0), (1, 29), (1, 30), (1, 31), (1, 32), (1, 33), (1, 34), (1, 35), (0, 0), (1, 36), (1, 37), (1, 38), (1, 39), (0, 0), (0, 0), (0, 0), (0, 0), (1, 40), (0, 0), (1, 41), (0, 0), (1, 42), (0, 0)], [(1, 2), (1, 1), (1, 3), (0, 0)], [(2, 1), (0, 0), (0, 0), (0, 0)], [(4, 0), (4, 0), (4, 0), (4, 0), (4, 0), (0, 0), (0, 0), (0, 0)], [(1, 2), (1, 1)], [(0, 0), (3, 0), (3, 0)], [(0, 0)], [(0, 0)], [(3, 0), (3, 0), (3, 0), (3, 0), (3, 0), (3, 0), (3, 0), (3, 0), (3, 0), (3, 0), (3, 0), (3, 0), (3, 0), (0, 0), (0, 0), (0, 0), (0, 0), (0, 0)], [(3, 0)], [(3, 0), (3, 0), (0, 0)], [(3, 0), (3, 0), (3, 0), (3, 0), (3, 0), (3, 0), (3, 0), (3, 0), (3, 0), (0, 0), (0, 0), (0, 0), (0, 0), (0, 0), (0, 0)], [(0, 0), (0, 0), (0, 0), (0, 0), (0, 0), (0, 0)], [(3, 0), (3, 0), (3, 0), (3, 0), (3, 0), (0, 0), (0, 0)], [(3, 0), (0, 0), (0, 0), (0, 0)], [(3, 0), (3, 0), (3, 0), (3, 0)], [(3, 0), (3, 0), (3, 0), (3, 0), (3, 0), (3, 0), (3, 0), (3, 0), (3, 0), (3, 0), (3, 0), (3, 0), (3, 0), (0, 0), (0, 0), (0, 0), (0, 0), (0, 0), (0, 0), (0, 0), (0, 0), (0, 0), (0, 0), (0, 0)], [(0, 0), (3, 0), (0, 0), (0, 0), (0, 0), (0, 0), (0, 0), (0, 0), (0, 0), (3, 0), (3, 0), (3, 0), (3, 0), (3, 0), (3, 0), (3, 0), (3, 0), (3, 0), (3, 0), (3, 0), (3, 0), (3, 0), (3, 0), (3, 0), (3, 0), (3, 0), (0, 0), (0, 0), (0, 0), (0, 0), (0, 0), (0, 0), (0, 0), (0, 0), (0, 0), (0, 0), (0, 0), (3, 0), (3, 0), (3, 0), (3, 0), (3, 0), (0, 0), (0, 0), (3, 0), (3, 0), (3, 0), (3, 0), (3, 0), (0, 0), (0, 0), (3, 0), (3, 0), (3, 0), (3, 0), (3, 0), (3, 0), (3, 0), (0, 0), (3, 0), (3, 0), (3, 0), (3, 0), (0, 0), (0, 0), (0, 0), (0, 0), (3, 0), (0, 0), (3, 0), (0, 0), (3, 0), (0, 0)], [(3, 0), (3, 0), (3, 0), (0, 0)], [(3, 0), (0, 0), (0, 0), (0, 0)], [(4, 0), (4, 0), (4, 0), (4, 0), (4, 0), (0, 0), (0, 0), (0, 0)], [(3, 0), (3, 0)], [(0, 0), (3, 0), (3, 0)], [(0, 0)], [(0, 0)]]
def lt_ (ci j : Nat) : Nat × Nat := (ltab.getD ci []).getD j (9, 0)
abbrev vI (a : Int) : Value := .int (Int32.ofInt a)
abbrev vL (a : Int) : Value := .long (Int64.ofInt a)
def rvo (b : Nat) (v : Int) : Option Nat := if v < 0 then none else some (b + v.toNat)
def fv (b : Nat) (g : GS) (o ci j : Nat) : Value := match (lt_ ci j).1 with
  | 0 => vI (gI g (100 * ci + j) o)
  | 1 => .ref (b + (o + (lt_ ci j).2))
  | 2 => .ref (b + (lt_ ci j).2)
  | 4 => va_rf (rvo 0 (gI g (100 * ci + j) o))
  | _ => va_rf (rvo b (gI g (100 * ci + j) o))
/-- the words of the two readers: their number, their places among the texts -/
def wln (i : Nat) : Nat := if i = 0 then 12 else 6
def wix (i k : Nat) : Nat := if i = 0 then 8 + k else k
/-- the contents of an array of numbers: type 3 long, else int, byte, boolean -/
def arrC (t : Nat) (f : Nat → Int) : (Nat → Int32) ⊕ (Nat → Int64) ⊕ (Nat → UInt32) ⊕ (Nat → UInt64) ⊕ (Nat → Option Nat) := match t with
  | 3 => .inr (.inl fun k => Int64.ofInt (f k))
  | _ => .inl fun k => Int32.ofInt (f k)
theorem arrC_i {t : Nat} {f : Nat → Int} (h : t < 3) : arrC t f = .inl fun k => Int32.ofInt (f k) := by
  unfold arrC
  split
  · omega
  · rfl
/-- what is known of the cell born o-th, by its kind kd: 0 nothing; c + 1 an object of class c; 10000 * (t + 1) + n an array of n places, of type t -/
def cOK (D : va_G) (dA : Nat → ClassId) (b : Nat) (g : GS) (o kd : Nat) (H : Heap) : Prop :=
  (∀ ci, ci < 100 → kd = ci + 1 → ∃ r : vw_C, clT[ci]? = some r ∧ t_OB (b + o) (D.1 ci) r.2.2 (D.2 ci) H (fv b g o ci)) ∧
  (∀ t n, t < 4 → n < 10000 → kd = 10000 * (t + 1) + n → H[b + o]? = some (vp_cell (dA t) (n, arrC t (gA g o)))) ∧
  (∀ t n, 4 ≤ t → t < 8 → n < 10000 → kd = 10000 * (t + 1) + n → H[b + o]? = some (vp_cell (dA t) (n, .inr (.inr (.inr (.inr fun k => rvo b (gA g o k))))))) ∧
  (∀ i, i < 2 → kd = 200 + i → H[b + o]? = some (vp_cell (dA 8) (wln i, .inr (.inr (.inr (.inr fun k => some (D.2 1000 (wix i k))))))))
def Wd (D : va_G) (dA : Nat → ClassId) (b : Nat) (K : Nat → Nat) (g : GS) (H : Heap) : Prop := ∀ o, cOK D dA b g o (K o) H
def tysA (dA : Nat → ClassId) : List (ClassId × FieldType) := [(dA 0, .int), (dA 1, .byte), (dA 2, .boolean), (dA 3, .long), (dA 4, .object "RainWheel$Plan"), (dA 5, .array (.object "RainWheel$Plan")), (dA 6, .object "RainWheel$Watch"), (dA 7, .array .int), (dA 8, .object "java/lang/String")]
theorem cOK.kept {D : va_G} {dA : Nat → ClassId} {b : Nat} {g g' : GS} {o kd : Nat} {H H1 : Heap} (h : cOK D dA b g o kd H) (h1 : H1[b + o]? = H[b + o]?) (hf : ∀ f, gI g' f o = gI g f o) (ha : ∀ k, gA g' o k = gA g o k) : cOK D dA b g' o kd H1 := by
  refine ⟨fun ci hc e => ?_, fun t n ht hn e => ?_, fun t n h4 ht hn e => ?_, fun i hi e => by rw [h1, h.2.2.2 i hi e]⟩
  · obtain ⟨r, h2, h3⟩ := h.1 ci hc e
    refine ⟨r, h2, (h3.kept h1).to fun k _ => ?_⟩
    unfold fv
    rw [hf]
  · rw [h1, h.2.1 t n ht hn e, show gA g' o = gA g o from funext ha]
  · rw [h1, h.2.2.1 t n h4 ht hn e]
    simp only [ha]
theorem cOK.i {D : va_G} {dA : Nat → ClassId} {b : Nat} {g : GS} {o kd : Nat} {H : Heap} (h : cOK D dA b g o kd H) (t n : Nat) (ht : t < 3) (hn : n < 10000) (e : kd = 10000 * (t + 1) + n) : H[b + o]? = some (vp_cell (dA t) (n, .inl fun k => Int32.ofInt (gA g o k))) := by
  rw [h.2.1 t n (by omega) hn e, arrC_i ht]
theorem cOK.none {D : va_G} {dA : Nat → ClassId} {b : Nat} {g : GS} {o : Nat} {H : Heap} : cOK D dA b g o 0 H := ⟨fun ci _ e => by omega, fun t n _ _ e => by omega, fun t n _ _ _ e => by omega, fun i _ e => by omega⟩
/-- the cells that a method over the world may change -/
def AK (b : Nat) (K : Nat → Nat) : Nat → Prop := fun q => ∃ o, q = b + o ∧ K o ≠ 0
abbrev CT : Type := (Program × Launch × Env × Room × State × MethodId) × (Array Value × List Frame × Method × Code × (State → Prop) × (Nat → Prop)) × (va_G × (Nat → ClassId) × Nat)
abbrev xb (x : CT) : Nat := x.2.2.2.2
def WS (x : CT) (K : Nat → Nat) (sz : Nat) (g : GS) (H : Heap) (locs : List Loc) : Prop :=
  Wd x.2.2.1 x.2.2.2.1 x.2.2.2.2 K g H ∧ (∀ o, K o ≠ 0 → x.2.1.2.2.2.2.2 (xb x + o)) ∧ H.size = xb x + sz ∧ va_S x.2.1.2.2.2.2.2 x.1.2.2.2.2.1.heap H locs
/-- the method goes on well from pc, with these locals and this stack, over the world g -/
def V (x : CT) (nL : Nat) (K : Nat → Nat) (ce sl sz : Nat) (g : GS) (pc : Nat) (L : List (Nat × Value)) (st : List Value) : Prop :=
  ∀ (H : Heap) (locs : List Loc) (ls : Array Slot), WS x K sz g H locs → lv_has ls nL L →
    W x.1.1 x.1.2.1 x.1.2.2.1 x.1.2.2.2.1 x.1.2.2.2.2.1 x.1.2.2.2.2.2 x.2.1.1 x.2.1.2.1 x.2.1.2.2.1 x.2.1.2.2.2.1 H locs ce sl x.2.1.2.2.2.2.1 (F0 x.1.2.2.2.2.2 pc ls st)
/-- the addresses of the texts, as the start has them -/
def SAd (D : va_G) (u0 : State) (b0 : Addr) : Prop := ∀ j, j < 39 → (stm j).eval #[Value.ref b0] u0 none [] u0 = some (.ref (D.2 1000 j))
/-- the law's start, still seen: what the Statement gave of it holds; the cells that were there stand as they stood -/
def SF (D : va_G) (b : Nat) (U : State) (H : Heap) : Prop := ∃ (u0 : State) (b0 : Addr), (Jvm.Cond.and given_1 narrow_1).before #[Value.ref b0] u0 = true ∧ (∀ w ∈ lw_tbl, w.before #[Value.ref b0] u0 = true) ∧ u0.WarmedH U.vm ∧ u0.heap.size ≤ b ∧ u0.heap.size ≤ H.size ∧ (∀ q : Nat, q < u0.heap.size → H[q]? = u0.heap[q]?) ∧ SAd D u0 b0
theorem SF.on {D : va_G} {b : Nat} {s U : State} {H : Heap} {A : Nat → Prop} {locs : List Loc} (h : SF D b s s.heap) (hW : s.WarmedH U.vm) (hA : ∀ q, A q → b ≤ q) (hS : va_S A s.heap H locs) : SF D b U H := by
  obtain ⟨u0, b0, h1, h2, h3, h4, h5, h6, h7⟩ := h
  refine ⟨u0, b0, h1, h2, State.WarmedH.trans h3 hW, h4, Nat.le_trans h5 hS.1, fun q hq => ?_, h7⟩
  rw [hS.2.1 q (Nat.lt_of_lt_of_le hq h5) (fun z => by have := hA q z; omega)]
  exact h6 q hq
def XOK (x : CT) (cc : ByteArray) (nL : Nat) (own : String) (ret : Option FieldType) (rm : Room) : Prop :=
  x.1.1.tables.exec = Jvm.exec ∧ x.2.1.2.2.2.1.code = cc ∧ x.2.1.2.2.2.1.maxLocals = nL ∧ x.1.2.2.2.2.1.vm.findClass own = some x.1.2.2.2.2.2.cls ∧ (∀ w ∈ lw_all, w.before x.2.1.1 x.1.2.2.2.2.1 = true) ∧ x.2.1.2.2.1.sig.returnType = ret ∧ x.2.1.2.2.1.locks = false ∧ va_K x.2.2.1 clT (tysA x.2.2.2.1) x.1.2.2.2.2.1 ∧ x.1.2.2.2.1 = rm ∧ SF x.2.2.1 (xb x) x.1.2.2.2.2.1 x.1.2.2.2.2.1.heap ∧ (∀ q, x.2.1.2.2.2.2.2 q → xb x ≤ q) ∧ x.1.2.1.flags = flags0
section ENG
variable {x : CT} {cc : ByteArray} {nL : Nat} {own : String} {ret : Option FieldType} {rm : Room} {K : Nat → Nat} {ce sl sz : Nat} {g : GS} {pc : Nat} {L L' : List (Nat × Value)} {st : List Value}
theorem V_sub (ks : List Nat) (hL : lv_pick L ks = L') (k : V x nL K ce sl sz g pc L' st) : V x nL K ce sl sz g pc L st := fun H locs ls hS hl => k H locs ls hS (lv_sub hl ks hL)
theorem V_iconst (hX : XOK x cc nL own ret rm) {n : Int} (d : decode cc pc = .ok (.iconst n, 1)) (k : V x nL K ce sl sz g (pc + 1) L (vI n :: st)) : V x nL K ce sl sz g pc L st := by
  obtain ⟨hx, hb, -⟩ := hX
  exact fun H locs ls hS hl => lv_iconst hx hb d rfl (k H locs ls hS hl)
theorem V_bipush (hX : XOK x cc nL own ret rm) {n : Int} (d : decode cc pc = .ok (.bipush n, 2)) (hn : (Int8.ofInt n).toInt32 = Int32.ofInt n) (k : V x nL K ce sl sz g (pc + 2) L (vI n :: st)) : V x nL K ce sl sz g pc L st := by
  obtain ⟨hx, hb, -⟩ := hX
  exact fun H locs ls hS hl => lv_bipush hx hb d hn (k H locs ls hS hl)
theorem V_sipush (hX : XOK x cc nL own ret rm) {n : Int} (d : decode cc pc = .ok (.sipush n, 3)) (hn : (Int16.ofInt n).toInt32 = Int32.ofInt n) (k : V x nL K ce sl sz g (pc + 3) L (vI n :: st)) : V x nL K ce sl sz g pc L st := by
  obtain ⟨hx, hb, -⟩ := hX
  exact fun H locs ls hS hl => lv_sipush hx hb d hn (k H locs ls hS hl)
theorem V_ldc (hX : XOK x cc nL own ret rm) {index : Nat} {v : Int32} {n : Int} (hc : Jvm.Cond.constant own index v ∈ lw_all) (hv : v = Int32.ofInt n) (d : decode cc pc = .ok (.ldc index, 2)) (k : V x nL K ce sl sz g (pc + 2) L (vI n :: st)) : V x nL K ce sl sz g pc L st := by
  obtain ⟨hx, hb, -, hown, hts, -⟩ := hX
  subst hv
  exact fun H locs ls hS hl => lv_ldc hx hb hown (hts _ hc) d (k H locs ls hS hl)
theorem V_ldcw (hX : XOK x cc nL own ret rm) {index : Nat} {v : Int32} {n : Int} (hc : Jvm.Cond.constant own index v ∈ lw_all) (hv : v = Int32.ofInt n) (d : decode cc pc = .ok (.ldc_w index, 3)) (k : V x nL K ce sl sz g (pc + 3) L (vI n :: st)) : V x nL K ce sl sz g pc L st := by
  obtain ⟨hx, hb, -, hown, hts, -⟩ := hX
  subst hv
  exact fun H locs ls hS hl => lv_ldcw hx hb hown (hts _ hc) d (k H locs ls hS hl)
theorem V_ldc2 (hX : XOK x cc nL own ret rm) {index : Nat} {v : Int64} {n : Int} (hc : Jvm.Cond.constantLong own index v ∈ lw_all) (hv : v = Int64.ofInt n) (d : decode cc pc = .ok (.ldc2_w index, 3)) (k : V x nL K ce sl sz g (pc + 3) L (vL n :: st)) : V x nL K ce sl sz g pc L st := by
  obtain ⟨hx, hb, -, hown, hts, -⟩ := hX
  subst hv
  exact fun H locs ls hS hl => lv_ldc2 hx hb hown (hts _ hc) d (k H locs ls hS hl)
theorem V_lconst (hX : XOK x cc nL own ret rm) {n : Fin 2} {a : Int} (d : decode cc pc = .ok (.lconst n, 1)) (ha : Int64.ofNat (n : Nat) = Int64.ofInt a) (k : V x nL K ce sl sz g (pc + 1) L (vL a :: st)) : V x nL K ce sl sz g pc L st := by
  obtain ⟨hx, hb, -⟩ := hX
  exact fun H locs ls hS hl => lv_lconst hx hb d ha (k H locs ls hS hl)
theorem V_iload_n (hX : XOK x cc nL own ret rm) {i : Fin 4} {a : Int} (d : decode cc pc = .ok (.iload_n i, 1)) (q : Nat) (hL : L[q]? = some ((i : Nat), vI a)) (k : V x nL K ce sl sz g (pc + 1) L (vI a :: st)) : V x nL K ce sl sz g pc L st := by
  obtain ⟨hx, hb, -⟩ := hX
  exact fun H locs ls hS hl => lv_iload_n hx hb d rfl (lv_at hl q hL) (k H locs ls hS hl)
theorem V_iload (hX : XOK x cc nL own ret rm) {i : Nat} {a : Int} (d : decode cc pc = .ok (.iload i, 2)) (q : Nat) (hL : L[q]? = some (i, vI a)) (k : V x nL K ce sl sz g (pc + 2) L (vI a :: st)) : V x nL K ce sl sz g pc L st := by
  obtain ⟨hx, hb, -⟩ := hX
  exact fun H locs ls hS hl => lv_iload hx hb d (lv_at hl q hL) (k H locs ls hS hl)
theorem V_lload_n (hX : XOK x cc nL own ret rm) {i : Fin 4} {a : Int} (d : decode cc pc = .ok (.lload_n i, 1)) (q : Nat) (hL : L[q]? = some ((i : Nat), vL a)) (k : V x nL K ce sl sz g (pc + 1) L (vL a :: st)) : V x nL K ce sl sz g pc L st := by
  obtain ⟨hx, hb, -⟩ := hX
  exact fun H locs ls hS hl => lv_lload_n hx hb d rfl (lv_at hl q hL) (k H locs ls hS hl)
theorem V_lload (hX : XOK x cc nL own ret rm) {i : Nat} {a : Int} (d : decode cc pc = .ok (.lload i, 2)) (q : Nat) (hL : L[q]? = some (i, vL a)) (k : V x nL K ce sl sz g (pc + 2) L (vL a :: st)) : V x nL K ce sl sz g pc L st := by
  obtain ⟨hx, hb, -⟩ := hX
  exact fun H locs ls hS hl => lv_lload hx hb d (lv_at hl q hL) (k H locs ls hS hl)
theorem V_aload_n (hX : XOK x cc nL own ret rm) {i : Fin 4} {a : Nat} (d : decode cc pc = .ok (.aload_n i, 1)) (q : Nat) (hL : L[q]? = some ((i : Nat), .ref a)) (k : V x nL K ce sl sz g (pc + 1) L (.ref a :: st)) : V x nL K ce sl sz g pc L st := by
  obtain ⟨hx, hb, -⟩ := hX
  exact fun H locs ls hS hl => lv_aload_n hx hb d rfl (lv_at hl q hL) (k H locs ls hS hl)
theorem V_aload (hX : XOK x cc nL own ret rm) {i : Nat} {a : Nat} (d : decode cc pc = .ok (.aload i, 2)) (q : Nat) (hL : L[q]? = some (i, .ref a)) (k : V x nL K ce sl sz g (pc + 2) L (.ref a :: st)) : V x nL K ce sl sz g pc L st := by
  obtain ⟨hx, hb, -⟩ := hX
  exact fun H locs ls hS hl => lv_aload hx hb d (lv_at hl q hL) (k H locs ls hS hl)
def st1 (i : Nat) (v : Value) (L : List (Nat × Value)) : List (Nat × Value) := (i, v) :: L.filter (fun q => !(q.1 == i) && !(q.1 + 1 == i && q.2.category == 2))
def st2 (i : Nat) (v : Value) (L : List (Nat × Value)) : List (Nat × Value) := (i, v) :: L.filter (fun q => !(q.1 == i) && (!(q.1 == i + 1) && !(q.1 + 1 == i && q.2.category == 2)))
theorem V_istore_n (hX : XOK x cc nL own ret rm) {i : Fin 4} {a : Int} (d : decode cc pc = .ok (.istore_n i, 1)) (hi : (i : Nat) < nL) (hL : st1 i (vI a) L = L') (k : V x nL K ce sl sz g (pc + 1) L' st) : V x nL K ce sl sz g pc L (vI a :: st) := by
  obtain ⟨hx, hb, -⟩ := hX
  exact fun H locs ls hS hl => lv_istore_n hx hb d rfl hl hi hL (fun ls' hl' => k H locs ls' hS hl')
theorem V_istore (hX : XOK x cc nL own ret rm) {i : Nat} {a : Int} (d : decode cc pc = .ok (.istore i, 2)) (hi : i < nL) (hL : st1 i (vI a) L = L') (k : V x nL K ce sl sz g (pc + 2) L' st) : V x nL K ce sl sz g pc L (vI a :: st) := by
  obtain ⟨hx, hb, -⟩ := hX
  exact fun H locs ls hS hl => lv_istore hx hb d hl hi hL (fun ls' hl' => k H locs ls' hS hl')
theorem V_lstore_n (hX : XOK x cc nL own ret rm) {i : Fin 4} {a : Int} (d : decode cc pc = .ok (.lstore_n i, 1)) (hi : (i : Nat) + 1 < nL) (hL : st2 i (vL a) L = L') (k : V x nL K ce sl sz g (pc + 1) L' st) : V x nL K ce sl sz g pc L (vL a :: st) := by
  obtain ⟨hx, hb, -⟩ := hX
  exact fun H locs ls hS hl => lv_lstore_n hx hb d rfl hl hi hL (fun ls' hl' => k H locs ls' hS hl')
theorem V_lstore (hX : XOK x cc nL own ret rm) {i : Nat} {a : Int} (d : decode cc pc = .ok (.lstore i, 2)) (hi : i + 1 < nL) (hL : st2 i (vL a) L = L') (k : V x nL K ce sl sz g (pc + 2) L' st) : V x nL K ce sl sz g pc L (vL a :: st) := by
  obtain ⟨hx, hb, -⟩ := hX
  exact fun H locs ls hS hl => lv_lstore hx hb d hl hi hL (fun ls' hl' => k H locs ls' hS hl')
theorem V_astore_n (hX : XOK x cc nL own ret rm) {i : Fin 4} {a : Nat} (d : decode cc pc = .ok (.astore_n i, 1)) (hi : (i : Nat) < nL) (hL : st1 i (.ref a) L = L') (k : V x nL K ce sl sz g (pc + 1) L' st) : V x nL K ce sl sz g pc L (.ref a :: st) := by
  obtain ⟨hx, hb, -⟩ := hX
  exact fun H locs ls hS hl => lv_astore_n hx hb d rfl hl hi hL (fun ls' hl' => k H locs ls' hS hl')
theorem V_astore (hX : XOK x cc nL own ret rm) {i : Nat} {a : Nat} (d : decode cc pc = .ok (.astore i, 2)) (hi : i < nL) (hL : st1 i (.ref a) L = L') (k : V x nL K ce sl sz g (pc + 2) L' st) : V x nL K ce sl sz g pc L (.ref a :: st) := by
  obtain ⟨hx, hb, -⟩ := hX
  exact fun H locs ls hS hl => lv_astore hx hb d hl hi hL (fun ls' hl' => k H locs ls' hS hl')
theorem V_iinc (hX : XOK x cc nL own ret rm) {i : Nat} {n a : Int} (d : decode cc pc = .ok (.iinc i n, 3)) (q : Nat) (hq : L[q]? = some (i, vI a)) (hi : i < nL) (hL : st1 i (vI (a + n)) L = L') (k : V x nL K ce sl sz g (pc + 3) L' st) : V x nL K ce sl sz g pc L st := by
  obtain ⟨hx, hb, -⟩ := hX
  exact fun H locs ls hS hl => lv_iinc hx hb d hl (k := q) hq (Int32.ofInt_add a n).symm hi hL (fun ls' hl' => k H locs ls' hS hl')
theorem V_iadd (hX : XOK x cc nL own ret rm) {a b : Int} (d : decode cc pc = .ok (.iadd, 1)) (k : V x nL K ce sl sz g (pc + 1) L (vI (a + b) :: st)) : V x nL K ce sl sz g pc L (vI b :: vI a :: st) := by
  obtain ⟨hx, hb, -⟩ := hX
  exact fun H locs ls hS hl => lv_iadd hx hb d (by rw [← Int32.ofInt_add]; exact k H locs ls hS hl)
theorem V_isub (hX : XOK x cc nL own ret rm) {a b : Int} (d : decode cc pc = .ok (.isub, 1)) (k : V x nL K ce sl sz g (pc + 1) L (vI (a - b) :: st)) : V x nL K ce sl sz g pc L (vI b :: vI a :: st) := by
  obtain ⟨hx, hb, -⟩ := hX
  exact fun H locs ls hS hl => lv_isub hx hb d (by rw [← Int32.ofInt_sub]; exact k H locs ls hS hl)
theorem V_imul (hX : XOK x cc nL own ret rm) {a b : Int} (d : decode cc pc = .ok (.imul, 1)) (k : V x nL K ce sl sz g (pc + 1) L (vI (a * b) :: st)) : V x nL K ce sl sz g pc L (vI b :: vI a :: st) := by
  obtain ⟨hx, hb, -⟩ := hX
  exact fun H locs ls hS hl => lv_imul hx hb d (by rw [← Int32.ofInt_mul]; exact k H locs ls hS hl)
theorem V_ineg (hX : XOK x cc nL own ret rm) {a : Int} (d : decode cc pc = .ok (.ineg, 1)) (k : V x nL K ce sl sz g (pc + 1) L (vI (-a) :: st)) : V x nL K ce sl sz g pc L (vI a :: st) := by
  obtain ⟨hx, hb, -⟩ := hX
  exact fun H locs ls hS hl => lv_ineg hx hb d (by rw [← Int32.ofInt_neg]; exact k H locs ls hS hl)
theorem V_iand (hX : XOK x cc nL own ret rm) {a b : Int} (d : decode cc pc = .ok (.iand, 1)) (k : V x nL K ce sl sz g (pc + 1) L (vI (i_and a b) :: st)) : V x nL K ce sl sz g pc L (vI b :: vI a :: st) := by
  obtain ⟨hx, hb, -⟩ := hX
  exact fun H locs ls hS hl => lv_iand hx hb d (by have h := k H locs ls hS hl; rwa [show vI (i_and a b) = .int (Int32.ofInt a &&& Int32.ofInt b) from congrArg Value.int (Int32.ofInt_toInt _)] at h)
theorem V_ior (hX : XOK x cc nL own ret rm) {a b : Int} (d : decode cc pc = .ok (.ior, 1)) (k : V x nL K ce sl sz g (pc + 1) L (vI (i_or a b) :: st)) : V x nL K ce sl sz g pc L (vI b :: vI a :: st) := by
  obtain ⟨hx, hb, -⟩ := hX
  exact fun H locs ls hS hl => lv_ior hx hb d (by have h := k H locs ls hS hl; rwa [show vI (i_or a b) = .int (Int32.ofInt a ||| Int32.ofInt b) from congrArg Value.int (Int32.ofInt_toInt _)] at h)
theorem V_ixor (hX : XOK x cc nL own ret rm) {a b : Int} (d : decode cc pc = .ok (.ixor, 1)) (k : V x nL K ce sl sz g (pc + 1) L (vI (i_xor a b) :: st)) : V x nL K ce sl sz g pc L (vI b :: vI a :: st) := by
  obtain ⟨hx, hb, -⟩ := hX
  exact fun H locs ls hS hl => lv_ixor hx hb d (by have h := k H locs ls hS hl; rwa [show vI (i_xor a b) = .int (Int32.ofInt a ^^^ Int32.ofInt b) from congrArg Value.int (Int32.ofInt_toInt _)] at h)
theorem V_ishl (hX : XOK x cc nL own ret rm) {a b : Int} (d : decode cc pc = .ok (.ishl, 1)) (k : V x nL K ce sl sz g (pc + 1) L (vI (i_shl a b) :: st)) : V x nL K ce sl sz g pc L (vI b :: vI a :: st) := by
  obtain ⟨hx, hb, -⟩ := hX
  exact fun H locs ls hS hl => lv_ishl hx hb d (by have h := k H locs ls hS hl; rwa [show vI (i_shl a b) = .int (Int32.ofInt a <<< (Int32.ofInt b &&& 31)) from congrArg Value.int (Int32.ofInt_toInt _)] at h)
theorem V_ishr (hX : XOK x cc nL own ret rm) {a b : Int} (d : decode cc pc = .ok (.ishr, 1)) (k : V x nL K ce sl sz g (pc + 1) L (vI (i_shr a b) :: st)) : V x nL K ce sl sz g pc L (vI b :: vI a :: st) := by
  obtain ⟨hx, hb, -⟩ := hX
  exact fun H locs ls hS hl => lv_ishr hx hb d (by have h := k H locs ls hS hl; rwa [show vI (i_shr a b) = .int (Int32.ofInt a >>> (Int32.ofInt b &&& 31)) from congrArg Value.int (Int32.ofInt_toInt _)] at h)
theorem w32_0 {a : Int} (h : ¬ w32 a = 0) : ¬ Int32.ofInt a = 0 := fun e => h (by unfold w32; rw [e]; rfl)
theorem w64_0 {a : Int} (h : ¬ w64 a = 0) : ¬ Int64.ofInt a = 0 := fun e => h (by unfold w64; rw [e]; rfl)
/-- a division whose divisor is known -/
theorem V_idivK (hX : XOK x cc nL own ret rm) {a b : Int} (d : decode cc pc = .ok (.idiv, 1)) (hn : ¬ w32 b = 0) (k : V x nL K ce sl sz g (pc + 1) L (vI (i_div a b) :: st)) : V x nL K ce sl sz g pc L (vI b :: vI a :: st) := by
  obtain ⟨hx, hb, -⟩ := hX
  exact fun H locs ls hS hl => lv_idiv hx hb d (w32_0 hn) (by have h := k H locs ls hS hl; rwa [show vI (i_div a b) = .int (Int32.ofInt a / Int32.ofInt b) from congrArg Value.int (Int32.ofInt_toInt _)] at h)
theorem V_iremK (hX : XOK x cc nL own ret rm) {a b : Int} (d : decode cc pc = .ok (.irem, 1)) (hn : ¬ w32 b = 0) (k : V x nL K ce sl sz g (pc + 1) L (vI (i_rem a b) :: st)) : V x nL K ce sl sz g pc L (vI b :: vI a :: st) := by
  obtain ⟨hx, hb, -⟩ := hX
  exact fun H locs ls hS hl => lv_irem hx hb d (w32_0 hn) (by have h := k H locs ls hS hl; rwa [show vI (i_rem a b) = .int (Int32.ofInt a - Int32.ofInt a / Int32.ofInt b * Int32.ofInt b) from congrArg Value.int (Int32.ofInt_toInt _)] at h)
theorem V_idiv {α : Type} {X : Option α} {r : α} (hX : XOK x cc nL own ret rm) {a b : Int} (d : decode cc pc = .ok (.idiv, 1)) (h : dvI b X = some r) (k : X = some r → V x nL K ce sl sz g (pc + 1) L (vI (i_div a b) :: st)) : V x nL K ce sl sz g pc L (vI b :: vI a :: st) := by
  unfold dvI at h
  split at h
  · cases h
  · exact V_idivK hX d (by assumption) (k h)
theorem V_irem {α : Type} {X : Option α} {r : α} (hX : XOK x cc nL own ret rm) {a b : Int} (d : decode cc pc = .ok (.irem, 1)) (h : dvI b X = some r) (k : X = some r → V x nL K ce sl sz g (pc + 1) L (vI (i_rem a b) :: st)) : V x nL K ce sl sz g pc L (vI b :: vI a :: st) := by
  unfold dvI at h
  split at h
  · cases h
  · exact V_iremK hX d (by assumption) (k h)
theorem V_ladd (hX : XOK x cc nL own ret rm) {a b : Int} (d : decode cc pc = .ok (.ladd, 1)) (k : V x nL K ce sl sz g (pc + 1) L (vL (a + b) :: st)) : V x nL K ce sl sz g pc L (vL b :: vL a :: st) := by
  obtain ⟨hx, hb, -⟩ := hX
  exact fun H locs ls hS hl => lv_ladd hx hb d (by rw [← Int64.ofInt_add]; exact k H locs ls hS hl)
theorem V_lsub (hX : XOK x cc nL own ret rm) {a b : Int} (d : decode cc pc = .ok (.lsub, 1)) (k : V x nL K ce sl sz g (pc + 1) L (vL (a - b) :: st)) : V x nL K ce sl sz g pc L (vL b :: vL a :: st) := by
  obtain ⟨hx, hb, -⟩ := hX
  exact fun H locs ls hS hl => lv_lsub hx hb d (by rw [← Int64.ofInt_sub]; exact k H locs ls hS hl)
theorem V_lmul (hX : XOK x cc nL own ret rm) {a b : Int} (d : decode cc pc = .ok (.lmul, 1)) (k : V x nL K ce sl sz g (pc + 1) L (vL (a * b) :: st)) : V x nL K ce sl sz g pc L (vL b :: vL a :: st) := by
  obtain ⟨hx, hb, -⟩ := hX
  exact fun H locs ls hS hl => lv_lmul hx hb d (by rw [← Int64.ofInt_mul]; exact k H locs ls hS hl)
theorem V_ldiv {α : Type} {X : Option α} {r : α} (hX : XOK x cc nL own ret rm) {a b : Int} (d : decode cc pc = .ok (.ldiv, 1)) (h : dvL b X = some r) (k : X = some r → V x nL K ce sl sz g (pc + 1) L (vL (l_div a b) :: st)) : V x nL K ce sl sz g pc L (vL b :: vL a :: st) := by
  obtain ⟨hx, hb, -⟩ := hX
  unfold dvL at h
  split at h
  · cases h
  · rename_i hn
    exact fun H locs ls hS hl => lv_ldiv hx hb d (w64_0 hn) (by have h := k h H locs ls hS hl; rwa [show vL (l_div a b) = .long (Int64.ofInt a / Int64.ofInt b) from congrArg Value.long (Int64.ofInt_toInt _)] at h)
theorem V_lrem {α : Type} {X : Option α} {r : α} (hX : XOK x cc nL own ret rm) {a b : Int} (d : decode cc pc = .ok (.lrem, 1)) (h : dvL b X = some r) (k : X = some r → V x nL K ce sl sz g (pc + 1) L (vL (l_rem a b) :: st)) : V x nL K ce sl sz g pc L (vL b :: vL a :: st) := by
  obtain ⟨hx, hb, -⟩ := hX
  unfold dvL at h
  split at h
  · cases h
  · rename_i hn
    exact fun H locs ls hS hl => lv_lrem hx hb d (w64_0 hn) (by have h := k h H locs ls hS hl; rwa [show vL (l_rem a b) = .long (Int64.ofInt a - Int64.ofInt a / Int64.ofInt b * Int64.ofInt b) from congrArg Value.long (Int64.ofInt_toInt _)] at h)
theorem V_i2l (hX : XOK x cc nL own ret rm) {a : Int} (d : decode cc pc = .ok (.i2l, 1)) (k : V x nL K ce sl sz g (pc + 1) L (vL (w32 a) :: st)) : V x nL K ce sl sz g pc L (vI a :: st) := by
  obtain ⟨hx, hb, -⟩ := hX
  exact fun H locs ls hS hl => lv_i2l hx hb d (Int64.ofInt_int32ToInt _).symm (k H locs ls hS hl)
theorem V_l2i (hX : XOK x cc nL own ret rm) {a : Int} (d : decode cc pc = .ok (.l2i, 1)) (k : V x nL K ce sl sz g (pc + 1) L (vI a :: st)) : V x nL K ce sl sz g pc L (vL a :: st) := by
  obtain ⟨hx, hb, -⟩ := hX
  exact fun H locs ls hS hl => lv_l2i hx hb d Int64.toInt32_ofInt (k H locs ls hS hl)
theorem V_i2b (hX : XOK x cc nL own ret rm) {a : Int} (d : decode cc pc = .ok (.i2b, 1)) (k : V x nL K ce sl sz g (pc + 1) L (vI (i_b a) :: st)) : V x nL K ce sl sz g pc L (vI a :: st) := by
  obtain ⟨hx, hb, -⟩ := hX
  exact fun H locs ls hS hl => lv_i2b hx hb d (Int32.ofInt_toInt _).symm (k H locs ls hS hl)
theorem lgc_eq (a b : Int) : lg_cmp (Int64.ofInt a) (Int64.ofInt b) = Int32.ofInt (l_cmp a b) := by
  unfold lg_cmp l_cmp w64
  simp only [Int64.lt_iff_toInt_lt, ← Int64.toInt_inj, beq_iff_eq]
  split
  · rfl
  · split <;> rfl
theorem V_lcmp (hX : XOK x cc nL own ret rm) {a b : Int} (d : decode cc pc = .ok (.lcmp, 1)) (k : V x nL K ce sl sz g (pc + 1) L (vI (l_cmp a b) :: st)) : V x nL K ce sl sz g pc L (vL b :: vL a :: st) := by
  obtain ⟨hx, hb, -⟩ := hX
  exact fun H locs ls hS hl => W.lcmp hx hb d (by rw [lgc_eq]; exact k H locs ls hS hl)
theorem V_dup (hX : XOK x cc nL own ret rm) {v : Value} (d : decode cc pc = .ok (.dup, 1)) (hc : v.category = 1) (k : V x nL K ce sl sz g (pc + 1) L (v :: v :: st)) : V x nL K ce sl sz g pc L (v :: st) := by
  obtain ⟨hx, hb, -⟩ := hX
  exact fun H locs ls hS hl => lv_dup hx hb d hc (k H locs ls hS hl)
theorem V_pop (hX : XOK x cc nL own ret rm) {v : Value} (d : decode cc pc = .ok (.pop, 1)) (hc : v.category = 1) (k : V x nL K ce sl sz g (pc + 1) L st) : V x nL K ce sl sz g pc L (v :: st) := by
  obtain ⟨hx, hb, -⟩ := hX
  exact fun H locs ls hS hl => lv_pop hx hb d hc (k H locs ls hS hl)
theorem V_dup2 (hX : XOK x cc nL own ret rm) {u v : Value} (d : decode cc pc = .ok (.dup2, 1)) (hu : u.category = 1) (hv : v.category = 1) (k : V x nL K ce sl sz g (pc + 1) L (u :: v :: u :: v :: st)) : V x nL K ce sl sz g pc L (u :: v :: st) := by
  obtain ⟨hx, hb, -⟩ := hX
  exact fun H locs ls hS hl => lv_dup2_11 hx hb d hu hv (k H locs ls hS hl)
theorem V_dup_x1 (hX : XOK x cc nL own ret rm) {u v : Value} (d : decode cc pc = .ok (.dup_x1, 1)) (hu : u.category = 1) (hv : v.category = 1) (k : V x nL K ce sl sz g (pc + 1) L (u :: v :: u :: st)) : V x nL K ce sl sz g pc L (u :: v :: st) := by
  obtain ⟨hx, hb, -⟩ := hX
  exact fun H locs ls hS hl => lv_dup_x1 hx hb d hu hv (k H locs ls hS hl)
theorem V_goto (hX : XOK x cc nL own ret rm) {off : Int} {tgt : Nat} (d : decode cc pc = .ok (.goto off, 3)) (ht : (pc : Int) + off = (tgt : Int)) (k : V x nL K ce sl sz g tgt L st) : V x nL K ce sl sz g pc L st := by
  obtain ⟨hx, hb, -⟩ := hX
  exact fun H locs ls hS hl => lv_goto hx hb d ht (k H locs ls hS hl)
theorem br_ite {α : Type} {c c' : Prop} [Decidable c] {T F : Option α} {r : α} {A B : Prop} (h : (if c then T else F) = some r) (hc : c' → c) (hc' : ¬ c' → ¬ c) (t : T = some r → A) (f : F = some r → B) : (c' → A) ∧ (¬ c' → B) := by
  constructor
  · intro q
    rw [if_pos (hc q)] at h
    exact t h
  · intro q
    rw [if_neg (hc' q)] at h
    exact f h
theorem le_iff32 {a b : Int} : Int32.ofInt a ≤ Int32.ofInt b ↔ w32 a ≤ w32 b := Int32.le_iff_toInt_le
theorem lt_iff32 {a b : Int} : Int32.ofInt a < Int32.ofInt b ↔ w32 a < w32 b := Int32.lt_iff_toInt_lt
theorem eq_iff32 {a b : Int} : Int32.ofInt a = Int32.ofInt b ↔ w32 a = w32 b := Int32.toInt_inj.symm
theorem le0_iff32 {a : Int} : Int32.ofInt a ≤ 0 ↔ w32 a ≤ 0 := Int32.le_iff_toInt_le
theorem lt0_iff32 {a : Int} : Int32.ofInt a < 0 ↔ w32 a < 0 := Int32.lt_iff_toInt_lt
theorem ge0_iff32 {a : Int} : 0 ≤ Int32.ofInt a ↔ 0 ≤ w32 a := Int32.le_iff_toInt_le
theorem gt0_iff32 {a : Int} : 0 < Int32.ofInt a ↔ 0 < w32 a := Int32.lt_iff_toInt_lt
theorem eq0_iff32 {a : Int} : Int32.ofInt a = 0 ↔ w32 a = 0 := Int32.toInt_inj.symm
theorem V_icmp_eq {α : Type} {T F : Option α} {r : α} (hX : XOK x cc nL own ret rm) {a b : Int} {off : Int} {tgt : Nat} (d : decode cc pc = .ok (.if_icmp .eq off, 3)) (ht : (pc : Int) + off = (tgt : Int)) (h : (if w32 a = w32 b then T else F) = some r) (t : T = some r → V x nL K ce sl sz g tgt L st) (f : F = some r → V x nL K ce sl sz g (pc + 3) L st) : V x nL K ce sl sz g pc L (vI b :: vI a :: st) := by
  obtain ⟨hx, hb, -⟩ := hX
  have q := br_ite h (eq_iff32 (a := a) (b := b)).mp (fun z y => z ((eq_iff32 (a := a) (b := b)).mpr y)) t f
  exact fun H locs ls hS hl => lv_icmp_eq hx hb d ht (fun z => q.1 z H locs ls hS hl) (fun z => q.2 z H locs ls hS hl)
theorem V_icmp_ne {α : Type} {T F : Option α} {r : α} (hX : XOK x cc nL own ret rm) {a b : Int} {off : Int} {tgt : Nat} (d : decode cc pc = .ok (.if_icmp .ne off, 3)) (ht : (pc : Int) + off = (tgt : Int)) (h : (if ¬ w32 a = w32 b then T else F) = some r) (t : T = some r → V x nL K ce sl sz g tgt L st) (f : F = some r → V x nL K ce sl sz g (pc + 3) L st) : V x nL K ce sl sz g pc L (vI b :: vI a :: st) := by
  obtain ⟨hx, hb, -⟩ := hX
  have q := br_ite h (not_congr (eq_iff32 (a := a) (b := b))).mp (fun z y => z ((not_congr (eq_iff32 (a := a) (b := b))).mpr y)) t f
  exact fun H locs ls hS hl => lv_icmp_ne hx hb d ht (fun z => q.1 z H locs ls hS hl) (fun z => q.2 (fun y => y z) H locs ls hS hl)
theorem V_icmp_lt {α : Type} {T F : Option α} {r : α} (hX : XOK x cc nL own ret rm) {a b : Int} {off : Int} {tgt : Nat} (d : decode cc pc = .ok (.if_icmp .lt off, 3)) (ht : (pc : Int) + off = (tgt : Int)) (h : (if w32 a < w32 b then T else F) = some r) (t : T = some r → V x nL K ce sl sz g tgt L st) (f : F = some r → V x nL K ce sl sz g (pc + 3) L st) : V x nL K ce sl sz g pc L (vI b :: vI a :: st) := by
  obtain ⟨hx, hb, -⟩ := hX
  have q := br_ite h (lt_iff32 (a := a) (b := b)).mp (fun z y => z ((lt_iff32 (a := a) (b := b)).mpr y)) t f
  exact fun H locs ls hS hl => lv_icmp_lt hx hb d ht (fun z => q.1 z H locs ls hS hl) (fun z => q.2 z H locs ls hS hl)
theorem V_icmp_ge {α : Type} {T F : Option α} {r : α} (hX : XOK x cc nL own ret rm) {a b : Int} {off : Int} {tgt : Nat} (d : decode cc pc = .ok (.if_icmp .ge off, 3)) (ht : (pc : Int) + off = (tgt : Int)) (h : (if w32 b ≤ w32 a then T else F) = some r) (t : T = some r → V x nL K ce sl sz g tgt L st) (f : F = some r → V x nL K ce sl sz g (pc + 3) L st) : V x nL K ce sl sz g pc L (vI b :: vI a :: st) := by
  obtain ⟨hx, hb, -⟩ := hX
  have q := br_ite h (le_iff32 (a := b) (b := a)).mp (fun z y => z ((le_iff32 (a := b) (b := a)).mpr y)) t f
  exact fun H locs ls hS hl => lv_icmp_ge hx hb d ht (fun z => q.1 z H locs ls hS hl) (fun z => q.2 z H locs ls hS hl)
theorem V_icmp_gt {α : Type} {T F : Option α} {r : α} (hX : XOK x cc nL own ret rm) {a b : Int} {off : Int} {tgt : Nat} (d : decode cc pc = .ok (.if_icmp .gt off, 3)) (ht : (pc : Int) + off = (tgt : Int)) (h : (if w32 b < w32 a then T else F) = some r) (t : T = some r → V x nL K ce sl sz g tgt L st) (f : F = some r → V x nL K ce sl sz g (pc + 3) L st) : V x nL K ce sl sz g pc L (vI b :: vI a :: st) := by
  obtain ⟨hx, hb, -⟩ := hX
  have q := br_ite h (lt_iff32 (a := b) (b := a)).mp (fun z y => z ((lt_iff32 (a := b) (b := a)).mpr y)) t f
  exact fun H locs ls hS hl => lv_icmp_gt hx hb d ht (fun z => q.1 z H locs ls hS hl) (fun z => q.2 z H locs ls hS hl)
theorem V_icmp_le {α : Type} {T F : Option α} {r : α} (hX : XOK x cc nL own ret rm) {a b : Int} {off : Int} {tgt : Nat} (d : decode cc pc = .ok (.if_icmp .le off, 3)) (ht : (pc : Int) + off = (tgt : Int)) (h : (if w32 a ≤ w32 b then T else F) = some r) (t : T = some r → V x nL K ce sl sz g tgt L st) (f : F = some r → V x nL K ce sl sz g (pc + 3) L st) : V x nL K ce sl sz g pc L (vI b :: vI a :: st) := by
  obtain ⟨hx, hb, -⟩ := hX
  have q := br_ite h (le_iff32 (a := a) (b := b)).mp (fun z y => z ((le_iff32 (a := a) (b := b)).mpr y)) t f
  exact fun H locs ls hS hl => lv_icmp_le hx hb d ht (fun z => q.1 z H locs ls hS hl) (fun z => q.2 z H locs ls hS hl)
theorem V_if_eq {α : Type} {T F : Option α} {r : α} (hX : XOK x cc nL own ret rm) {a : Int} {off : Int} {tgt : Nat} (d : decode cc pc = .ok (.ifCond .eq off, 3)) (ht : (pc : Int) + off = (tgt : Int)) (h : (if w32 a = 0 then T else F) = some r) (t : T = some r → V x nL K ce sl sz g tgt L st) (f : F = some r → V x nL K ce sl sz g (pc + 3) L st) : V x nL K ce sl sz g pc L (vI a :: st) := by
  obtain ⟨hx, hb, -⟩ := hX
  have q := br_ite h (eq0_iff32 (a := a)).mp (fun z y => z ((eq0_iff32 (a := a)).mpr y)) t f
  exact fun H locs ls hS hl => lv_if_eq hx hb d ht (fun z => q.1 z H locs ls hS hl) (fun z => q.2 z H locs ls hS hl)
theorem V_if_ne {α : Type} {T F : Option α} {r : α} (hX : XOK x cc nL own ret rm) {a : Int} {off : Int} {tgt : Nat} (d : decode cc pc = .ok (.ifCond .ne off, 3)) (ht : (pc : Int) + off = (tgt : Int)) (h : (if ¬ w32 a = 0 then T else F) = some r) (t : T = some r → V x nL K ce sl sz g tgt L st) (f : F = some r → V x nL K ce sl sz g (pc + 3) L st) : V x nL K ce sl sz g pc L (vI a :: st) := by
  obtain ⟨hx, hb, -⟩ := hX
  have q := br_ite h (not_congr (eq0_iff32 (a := a))).mp (fun z y => z ((not_congr (eq0_iff32 (a := a))).mpr y)) t f
  exact fun H locs ls hS hl => lv_if_ne hx hb d ht (fun z => q.1 z H locs ls hS hl) (fun z => q.2 (fun y => y z) H locs ls hS hl)
theorem V_if_lt {α : Type} {T F : Option α} {r : α} (hX : XOK x cc nL own ret rm) {a : Int} {off : Int} {tgt : Nat} (d : decode cc pc = .ok (.ifCond .lt off, 3)) (ht : (pc : Int) + off = (tgt : Int)) (h : (if w32 a < 0 then T else F) = some r) (t : T = some r → V x nL K ce sl sz g tgt L st) (f : F = some r → V x nL K ce sl sz g (pc + 3) L st) : V x nL K ce sl sz g pc L (vI a :: st) := by
  obtain ⟨hx, hb, -⟩ := hX
  have q := br_ite h (lt0_iff32 (a := a)).mp (fun z y => z ((lt0_iff32 (a := a)).mpr y)) t f
  exact fun H locs ls hS hl => lv_if_lt hx hb d ht (fun z => q.1 z H locs ls hS hl) (fun z => q.2 z H locs ls hS hl)
theorem V_if_ge {α : Type} {T F : Option α} {r : α} (hX : XOK x cc nL own ret rm) {a : Int} {off : Int} {tgt : Nat} (d : decode cc pc = .ok (.ifCond .ge off, 3)) (ht : (pc : Int) + off = (tgt : Int)) (h : (if 0 ≤ w32 a then T else F) = some r) (t : T = some r → V x nL K ce sl sz g tgt L st) (f : F = some r → V x nL K ce sl sz g (pc + 3) L st) : V x nL K ce sl sz g pc L (vI a :: st) := by
  obtain ⟨hx, hb, -⟩ := hX
  have q := br_ite h (ge0_iff32 (a := a)).mp (fun z y => z ((ge0_iff32 (a := a)).mpr y)) t f
  exact fun H locs ls hS hl => lv_if_ge hx hb d ht (fun z => q.1 z H locs ls hS hl) (fun z => q.2 z H locs ls hS hl)
theorem V_if_gt {α : Type} {T F : Option α} {r : α} (hX : XOK x cc nL own ret rm) {a : Int} {off : Int} {tgt : Nat} (d : decode cc pc = .ok (.ifCond .gt off, 3)) (ht : (pc : Int) + off = (tgt : Int)) (h : (if 0 < w32 a then T else F) = some r) (t : T = some r → V x nL K ce sl sz g tgt L st) (f : F = some r → V x nL K ce sl sz g (pc + 3) L st) : V x nL K ce sl sz g pc L (vI a :: st) := by
  obtain ⟨hx, hb, -⟩ := hX
  have q := br_ite h (gt0_iff32 (a := a)).mp (fun z y => z ((gt0_iff32 (a := a)).mpr y)) t f
  exact fun H locs ls hS hl => lv_if_gt hx hb d ht (fun z => q.1 z H locs ls hS hl) (fun z => q.2 z H locs ls hS hl)
theorem V_if_le {α : Type} {T F : Option α} {r : α} (hX : XOK x cc nL own ret rm) {a : Int} {off : Int} {tgt : Nat} (d : decode cc pc = .ok (.ifCond .le off, 3)) (ht : (pc : Int) + off = (tgt : Int)) (h : (if w32 a ≤ 0 then T else F) = some r) (t : T = some r → V x nL K ce sl sz g tgt L st) (f : F = some r → V x nL K ce sl sz g (pc + 3) L st) : V x nL K ce sl sz g pc L (vI a :: st) := by
  obtain ⟨hx, hb, -⟩ := hX
  have q := br_ite h (le0_iff32 (a := a)).mp (fun z y => z ((le0_iff32 (a := a)).mpr y)) t f
  exact fun H locs ls hS hl => lv_if_le hx hb d ht (fun z => q.1 z H locs ls hS hl) (fun z => q.2 z H locs ls hS hl)
end ENG
