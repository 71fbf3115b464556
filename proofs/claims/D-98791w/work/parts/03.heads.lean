/-! RainWheel -/
set_option maxRecDepth 100000
def RX1 : String := "RainWheel"
def TX1 : u_T := fun k => match k with
  | 0 => ("RainWheel", "tape", "[B", true)
  | 1 => ("RainWheel", "law", "LRainWheel$Law;", true)
  | 2 => ("RainWheel", "plan", "LRainWheel$Plan;", true)
  | 3 => ("RainWheel", "before", "[LRainWheel$Plan;", true)
  | 4 => ("RainWheel", "images", "[[LRainWheel$Plan;", true)
  | 5 => ("RainWheel", "imageChanges", "[I", true)
  | 6 => ("RainWheel", "refused", "[I", true)
  | 7 => ("RainWheel", "seen", "[I", true)
  | 8 => ("RainWheel", "watch", "LRainWheel$Watch;", true)
  | 9 => ("RainWheel", "soonest", "LRainWheel$Soonest;", true)
  | 10 => ("RainWheel", "ring", "LRainWheel$Ring;", true)
  | 11 => ("RainWheel", "miles", "LRainWheel$Miles;", true)
  | 12 => ("RainWheel", "road", "LRainWheel$Road;", false)
  | 13 => ("RainWheel", "fed", "I", false)
  | 14 => ("RainWheel", "place", "I", false)
  | 15 => ("RainWheel", "lines", "I", false)
  | 16 => ("RainWheel", "changes", "I", false)
  | _ => ("RainWheel", "kept", "I", false)
def tyX1 : Nat → FieldType := fun k => match k with
  | 0 => .array .byte
  | 1 => .object "RainWheel$Law"
  | 2 => .object "RainWheel$Plan"
  | 3 => .array (.object "RainWheel$Plan")
  | 4 => .array (.array (.object "RainWheel$Plan"))
  | 5 => .array .int
  | 6 => .array .int
  | 7 => .array .int
  | 8 => .object "RainWheel$Watch"
  | 9 => .object "RainWheel$Soonest"
  | 10 => .object "RainWheel$Ring"
  | 11 => .object "RainWheel$Miles"
  | 12 => .object "RainWheel$Road"
  | 13 => .int
  | 14 => .int
  | 15 => .int
  | 16 => .int
  | _ => .int
abbrev wsX10 : List Cond := u_ws RX1 TX1 18
set_option maxRecDepth 100000 in
theorem nmX1 : ∀ a, a < 18 → ∀ b, b < 18 → a ≠ b → (TX1 a).2.1 ≠ (TX1 b).2.1 := by decide +kernel
set_option maxRecDepth 100000 in
theorem tyX1_ok : ∀ k, k < 18 → parseFieldDescriptor (TX1 k).2.2.1 = some (tyX1 k) := by decide +kernel
theorem in_X1 : ∀ w ∈ wsX10, w ∈ lw_all := lw_in wsX10 [495, 497, 499, 501, 503, 505, 507, 509, 511, 513, 515, 517, 519, 521, 523, 525, 527, 529] (by decide +kernel) (by decide +kernel)
/-! RainWheel$Law -/
set_option maxRecDepth 100000
def RX2 : String := "RainWheel$Law"
def TX2 : u_T := fun k => match k with
  | _ => ("RainWheel$Law", "term", "LRainWheel$Term;", false)
def tyX2 : Nat → FieldType := fun k => match k with
  | _ => .object "RainWheel$Term"
abbrev wsX20 : List Cond := u_ws RX2 TX2 1
theorem nmX2 : ∀ a, a < 1 → ∀ b, b < 1 → a ≠ b → (TX2 a).2.1 ≠ (TX2 b).2.1 := by decide +kernel
theorem tyX2_ok : ∀ k, k < 1 → parseFieldDescriptor (TX2 k).2.2.1 = some (tyX2 k) := by decide +kernel
theorem in_X2 : ∀ w ∈ wsX20, w ∈ lw_all := lw_in wsX20 [142] (by decide +kernel) (by decide +kernel)
/-! RainWheel$Plan -/
set_option maxRecDepth 100000
def RX3 : String := "RainWheel$Plan"
def TX3 : u_T := fun k => match k with
  | 0 => ("RainWheel$Plan", "deed", "[I", true)
  | 1 => ("RainWheel$Plan", "who", "[I", true)
  | _ => ("RainWheel$Plan", "lines", "I", false)
def tyX3 : Nat → FieldType := fun k => match k with
  | 0 => .array .int
  | 1 => .array .int
  | _ => .int
abbrev wsX30 : List Cond := u_ws RX3 TX3 3
theorem nmX3 : ∀ a, a < 3 → ∀ b, b < 3 → a ≠ b → (TX3 a).2.1 ≠ (TX3 b).2.1 := by decide +kernel
theorem tyX3_ok : ∀ k, k < 3 → parseFieldDescriptor (TX3 k).2.2.1 = some (tyX3 k) := by decide +kernel
theorem in_X3 : ∀ w ∈ wsX30, w ∈ lw_all := lw_in wsX30 [161, 163, 165] (by decide +kernel) (by decide +kernel)
/-! RainWheel$Watch -/
set_option maxRecDepth 100000
def RX4 : String := "RainWheel$Watch"
def TX4 : u_T := fun k => match k with
  | 0 => ("RainWheel$Watch", "begins", "[I", true)
  | 1 => ("RainWheel$Watch", "ends", "[I", true)
  | 2 => ("RainWheel$Watch", "endOf", "[I", true)
  | 3 => ("RainWheel$Watch", "free", "[I", true)
  | 4 => ("RainWheel$Watch", "wet", "[I", true)
  | 5 => ("RainWheel$Watch", "busy", "[I", true)
  | 6 => ("RainWheel$Watch", "sight", "LRainWheel$Sight;", true)
  | 7 => ("RainWheel$Watch", "law", "LRainWheel$Law;", true)
  | 8 => ("RainWheel$Watch", "road", "LRainWheel$Road;", false)
  | 9 => ("RainWheel$Watch", "span", "I", false)
  | 10 => ("RainWheel$Watch", "agains", "I", false)
  | 11 => ("RainWheel$Watch", "lots", "I", false)
  | 12 => ("RainWheel$Watch", "longer", "I", false)
  | 13 => ("RainWheel$Watch", "more", "I", false)
  | _ => ("RainWheel$Watch", "loses", "I", false)
def tyX4 : Nat → FieldType := fun k => match k with
  | 0 => .array .int
  | 1 => .array .int
  | 2 => .array .int
  | 3 => .array .int
  | 4 => .array .int
  | 5 => .array .int
  | 6 => .object "RainWheel$Sight"
  | 7 => .object "RainWheel$Law"
  | 8 => .object "RainWheel$Road"
  | 9 => .int
  | 10 => .int
  | 11 => .int
  | 12 => .int
  | 13 => .int
  | _ => .int
abbrev wsX40 : List Cond := u_ws RX4 TX4 15
set_option maxRecDepth 100000 in
theorem nmX4 : ∀ a, a < 15 → ∀ b, b < 15 → a ≠ b → (TX4 a).2.1 ≠ (TX4 b).2.1 := by decide +kernel
set_option maxRecDepth 100000 in
theorem tyX4_ok : ∀ k, k < 15 → parseFieldDescriptor (TX4 k).2.2.1 = some (tyX4 k) := by decide +kernel
theorem in_X4 : ∀ w ∈ wsX40, w ∈ lw_all := lw_in wsX40 [239, 241, 243, 245, 247, 249, 251, 253, 255, 257, 259, 261, 263, 265, 267] (by decide +kernel) (by decide +kernel)
/-! RainWheel$Sight -/
set_option maxRecDepth 100000
def RX5 : String := "RainWheel$Sight"
def TX5 : u_T := fun k => match k with
  | 0 => ("RainWheel$Sight", "minutes", "I", false)
  | 1 => ("RainWheel$Sight", "hands", "I", false)
  | 2 => ("RainWheel$Sight", "strong", "I", false)
  | 3 => ("RainWheel$Sight", "rain", "I", false)
  | 4 => ("RainWheel$Sight", "minute", "I", false)
  | _ => ("RainWheel$Sight", "out", "I", false)
def tyX5 : Nat → FieldType := fun k => match k with
  | 0 => .int
  | 1 => .int
  | 2 => .int
  | 3 => .int
  | 4 => .int
  | _ => .int
abbrev wsX50 : List Cond := u_ws RX5 TX5 6
theorem nmX5 : ∀ a, a < 6 → ∀ b, b < 6 → a ≠ b → (TX5 a).2.1 ≠ (TX5 b).2.1 := by decide +kernel
theorem tyX5_ok : ∀ k, k < 6 → parseFieldDescriptor (TX5 k).2.2.1 = some (tyX5 k) := by decide +kernel
theorem in_X5 : ∀ w ∈ wsX50, w ∈ lw_all := lw_in wsX50 [204, 206, 208, 210, 212, 214] (by decide +kernel) (by decide +kernel)
/-! RainWheel$Soonest -/
set_option maxRecDepth 100000
def RX6 : String := "RainWheel$Soonest"
def TX6 : u_T := fun k => match k with
  | 0 => ("RainWheel$Soonest", "watch", "[LRainWheel$Watch;", true)
  | 1 => ("RainWheel$Soonest", "deed", "[I", true)
  | 2 => ("RainWheel$Soonest", "who", "[I", true)
  | 3 => ("RainWheel$Soonest", "bestDeed", "[I", true)
  | 4 => ("RainWheel$Soonest", "bestWho", "[I", true)
  | 5 => ("RainWheel$Soonest", "span", "I", false)
  | _ => ("RainWheel$Soonest", "wet", "I", false)
def tyX6 : Nat → FieldType := fun k => match k with
  | 0 => .array (.object "RainWheel$Watch")
  | 1 => .array .int
  | 2 => .array .int
  | 3 => .array .int
  | 4 => .array .int
  | 5 => .int
  | _ => .int
abbrev wsX60 : List Cond := u_ws RX6 TX6 7
theorem nmX6 : ∀ a, a < 7 → ∀ b, b < 7 → a ≠ b → (TX6 a).2.1 ≠ (TX6 b).2.1 := by decide +kernel
theorem tyX6_ok : ∀ k, k < 7 → parseFieldDescriptor (TX6 k).2.2.1 = some (tyX6 k) := by decide +kernel
theorem in_X6 : ∀ w ∈ wsX60, w ∈ lw_all := lw_in wsX60 [290, 292, 294, 296, 298, 300, 302] (by decide +kernel) (by decide +kernel)
/-! RainWheel$Ring -/
set_option maxRecDepth 100000
def RX7 : String := "RainWheel$Ring"
def TX7 : u_T := fun k => match k with
  | 0 => ("RainWheel$Ring", "row", "[I", true)
  | 1 => ("RainWheel$Ring", "many", "I", false)
  | 2 => ("RainWheel$Ring", "least", "I", false)
  | _ => ("RainWheel$Ring", "digits", "I", false)
def tyX7 : Nat → FieldType := fun k => match k with
  | 0 => .array .int
  | 1 => .int
  | 2 => .int
  | _ => .int
abbrev wsX70 : List Cond := u_ws RX7 TX7 4
theorem nmX7 : ∀ a, a < 4 → ∀ b, b < 4 → a ≠ b → (TX7 a).2.1 ≠ (TX7 b).2.1 := by decide +kernel
theorem tyX7_ok : ∀ k, k < 4 → parseFieldDescriptor (TX7 k).2.2.1 = some (tyX7 k) := by decide +kernel
theorem in_X7 : ∀ w ∈ wsX70, w ∈ lw_all := lw_in wsX70 [317, 319, 321, 323] (by decide +kernel) (by decide +kernel)
/-! RainWheel$Miles -/
set_option maxRecDepth 100000
def RX8 : String := "RainWheel$Miles"
def TX8 : u_T := fun k => match k with
  | 0 => ("RainWheel$Miles", "minutes", "[I", true)
  | 1 => ("RainWheel$Miles", "pumps", "[I", true)
  | 2 => ("RainWheel$Miles", "nextMinutes", "[I", true)
  | _ => ("RainWheel$Miles", "nextPumps", "[I", true)
def tyX8 : Nat → FieldType := fun k => match k with
  | 0 => .array .int
  | 1 => .array .int
  | 2 => .array .int
  | _ => .array .int
abbrev wsX80 : List Cond := u_ws RX8 TX8 4
theorem nmX8 : ∀ a, a < 4 → ∀ b, b < 4 → a ≠ b → (TX8 a).2.1 ≠ (TX8 b).2.1 := by decide +kernel
theorem tyX8_ok : ∀ k, k < 4 → parseFieldDescriptor (TX8 k).2.2.1 = some (tyX8 k) := by decide +kernel
theorem in_X8 : ∀ w ∈ wsX80, w ∈ lw_all := lw_in wsX80 [338, 340, 342, 344] (by decide +kernel) (by decide +kernel)
/-! RainWheel$Road -/
set_option maxRecDepth 100000
def RX9 : String := "RainWheel$Road"
def TX9 : u_T := fun k => match k with
  | 0 => ("RainWheel$Road", "strong", "[I", true)
  | 1 => ("RainWheel$Road", "minutes", "[I", true)
  | 2 => ("RainWheel$Road", "out", "[I", true)
  | 3 => ("RainWheel$Road", "hands", "[I", true)
  | 4 => ("RainWheel$Road", "strength", "[I", true)
  | 5 => ("RainWheel$Road", "needs", "[I", true)
  | 6 => ("RainWheel$Road", "from", "[I", true)
  | 7 => ("RainWheel$Road", "to", "[I", true)
  | 8 => ("RainWheel$Road", "bears", "[I", true)
  | 9 => ("RainWheel$Road", "broad", "[I", true)
  | 10 => ("RainWheel$Road", "rust", "[I", true)
  | 11 => ("RainWheel$Road", "likely", "[I", true)
  | 12 => ("RainWheel$Road", "shows", "[[I", true)
  | 13 => ("RainWheel$Road", "people", "I", false)
  | 14 => ("RainWheel$Road", "deeds", "I", false)
  | 15 => ("RainWheel$Road", "rains", "I", false)
  | 16 => ("RainWheel$Road", "boards", "I", false)
  | 17 => ("RainWheel$Road", "nuts", "I", false)
  | 18 => ("RainWheel$Road", "causes", "I", false)
  | 19 => ("RainWheel$Road", "load", "I", false)
  | 20 => ("RainWheel$Road", "stops", "I", false)
  | 21 => ("RainWheel$Road", "loses", "I", false)
  | 22 => ("RainWheel$Road", "soft", "I", false)
  | _ => ("RainWheel$Road", "each", "I", false)
def tyX9 : Nat → FieldType := fun k => match k with
  | 0 => .array .int
  | 1 => .array .int
  | 2 => .array .int
  | 3 => .array .int
  | 4 => .array .int
  | 5 => .array .int
  | 6 => .array .int
  | 7 => .array .int
  | 8 => .array .int
  | 9 => .array .int
  | 10 => .array .int
  | 11 => .array .int
  | 12 => .array (.array .int)
  | 13 => .int
  | 14 => .int
  | 15 => .int
  | 16 => .int
  | 17 => .int
  | 18 => .int
  | 19 => .int
  | 20 => .int
  | 21 => .int
  | 22 => .int
  | _ => .int
abbrev wsX90 : List Cond := u_ws RX9 TX9 24
set_option maxRecDepth 100000 in
theorem nmX9 : ∀ a, a < 24 → ∀ b, b < 24 → a ≠ b → (TX9 a).2.1 ≠ (TX9 b).2.1 := by decide +kernel
set_option maxRecDepth 100000 in
theorem tyX9_ok : ∀ k, k < 24 → parseFieldDescriptor (TX9 k).2.2.1 = some (tyX9 k) := by decide +kernel
theorem in_X9 : ∀ w ∈ wsX90, w ∈ lw_all := lw_in wsX90 [428, 430, 432, 434, 436, 438, 440, 442, 444, 446, 448, 450, 452, 454, 456, 458, 460, 462, 464, 466, 468, 470, 472, 474] (by decide +kernel) (by decide +kernel)
/-! RainWheelModel -/
set_option maxRecDepth 100000
def RX10 : String := "RainWheelModel"
def TX10 : u_T := fun k => match k with
  | 0 => ("RainWheelModel", "thrown", "I", false)
  | 1 => ("RainWheelModel", "refused", "[I", true)
  | 2 => ("RainWheelModel", "taped", "I", false)
  | 3 => ("RainWheelModel", "size", "I", false)
  | 4 => ("RainWheelModel", "at", "I", false)
  | 5 => ("RainWheelModel", "bad", "I", false)
  | 6 => ("RainWheelModel", "badKind", "I", false)
  | 7 => ("RainWheelModel", "opens", "I", false)
  | 8 => ("RainWheelModel", "faultAt", "I", false)
  | 9 => ("RainWheelModel", "tape", "[I", true)
  | 10 => ("RainWheelModel", "newStrong", "[I", true)
  | 11 => ("RainWheelModel", "newDeed", "[I", true)
  | 12 => ("RainWheelModel", "newBears", "[I", true)
  | 13 => ("RainWheelModel", "newBoard", "[I", true)
  | 14 => ("RainWheelModel", "newNut", "[I", true)
  | 15 => ("RainWheelModel", "newCause", "[I", true)
  | 16 => ("RainWheelModel", "strong", "[I", true)
  | 17 => ("RainWheelModel", "deed", "[I", true)
  | 18 => ("RainWheelModel", "bearing", "[I", true)
  | 19 => ("RainWheelModel", "board", "[I", true)
  | 20 => ("RainWheelModel", "nut", "[I", true)
  | 21 => ("RainWheelModel", "cause", "[I", true)
  | 22 => ("RainWheelModel", "newRain", "[Z", true)
  | 23 => ("RainWheelModel", "rain", "[Z", true)
  | 24 => ("RainWheelModel", "newTold", "[I", true)
  | 25 => ("RainWheelModel", "toldNow", "[I", true)
  | 26 => ("RainWheelModel", "newPeople", "I", false)
  | 27 => ("RainWheelModel", "newDeeds", "I", false)
  | 28 => ("RainWheelModel", "newRains", "I", false)
  | 29 => ("RainWheelModel", "newBoards", "I", false)
  | 30 => ("RainWheelModel", "newNuts", "I", false)
  | 31 => ("RainWheelModel", "newCauses", "I", false)
  | 32 => ("RainWheelModel", "people", "I", false)
  | 33 => ("RainWheelModel", "deeds", "I", false)
  | 34 => ("RainWheelModel", "boards", "I", false)
  | 35 => ("RainWheelModel", "nuts", "I", false)
  | 36 => ("RainWheelModel", "causes", "I", false)
  | 37 => ("RainWheelModel", "newCode", "[I", true)
  | 38 => ("RainWheelModel", "newOf", "[I", true)
  | 39 => ("RainWheelModel", "code", "[I", true)
  | 40 => ("RainWheelModel", "ofCode", "[I", true)
  | 41 => ("RainWheelModel", "stack", "[I", true)
  | 42 => ("RainWheelModel", "newCodes", "I", false)
  | 43 => ("RainWheelModel", "codes", "I", false)
  | 44 => ("RainWheelModel", "facts", "[I", true)
  | 45 => ("RainWheelModel", "newPlan", "[I", true)
  | 46 => ("RainWheelModel", "plan", "[I", true)
  | 47 => ("RainWheelModel", "newSeen", "[I", true)
  | 48 => ("RainWheelModel", "seen", "[I", true)
  | 49 => ("RainWheelModel", "plans", "I", false)
  | 50 => ("RainWheelModel", "books", "I", false)
  | 51 => ("RainWheelModel", "begins", "[I", true)
  | 52 => ("RainWheelModel", "ends", "[I", true)
  | 53 => ("RainWheelModel", "free", "[I", true)
  | 54 => ("RainWheelModel", "endOf", "[I", true)
  | 55 => ("RainWheelModel", "wetOf", "[I", true)
  | 56 => ("RainWheelModel", "busy", "[I", true)
  | 57 => ("RainWheelModel", "more", "[I", true)
  | 58 => ("RainWheelModel", "again", "I", false)
  | 59 => ("RainWheelModel", "chainOf", "[I", true)
  | 60 => ("RainWheelModel", "freeAt", "[I", true)
  | 61 => ("RainWheelModel", "bestPlan", "[I", true)
  | 62 => ("RainWheelModel", "tryPlan", "[I", true)
  | 63 => ("RainWheelModel", "bestSpan", "I", false)
  | 64 => ("RainWheelModel", "bestWet", "I", false)
  | 65 => ("RainWheelModel", "crossLeast", "I", false)
  | 66 => ("RainWheelModel", "crossRow", "I", false)
  | 67 => ("RainWheelModel", "driving", "[I", true)
  | 68 => ("RainWheelModel", "seedNow", "I", false)
  | 69 => ("RainWheelModel", "past", "[I", true)
  | 70 => ("RainWheelModel", "changes", "I", false)
  | 71 => ("RainWheelModel", "image", "[I", true)
  | _ => ("RainWheelModel", "images", "I", false)
def tyX10 : Nat → FieldType := fun k => match k with
  | 0 => .int
  | 1 => .array .int
  | 2 => .int
  | 3 => .int
  | 4 => .int
  | 5 => .int
  | 6 => .int
  | 7 => .int
  | 8 => .int
  | 9 => .array .int
  | 10 => .array .int
  | 11 => .array .int
  | 12 => .array .int
  | 13 => .array .int
  | 14 => .array .int
  | 15 => .array .int
  | 16 => .array .int
  | 17 => .array .int
  | 18 => .array .int
  | 19 => .array .int
  | 20 => .array .int
  | 21 => .array .int
  | 22 => .array .boolean
  | 23 => .array .boolean
  | 24 => .array .int
  | 25 => .array .int
  | 26 => .int
  | 27 => .int
  | 28 => .int
  | 29 => .int
  | 30 => .int
  | 31 => .int
  | 32 => .int
  | 33 => .int
  | 34 => .int
  | 35 => .int
  | 36 => .int
  | 37 => .array .int
  | 38 => .array .int
  | 39 => .array .int
  | 40 => .array .int
  | 41 => .array .int
  | 42 => .int
  | 43 => .int
  | 44 => .array .int
  | 45 => .array .int
  | 46 => .array .int
  | 47 => .array .int
  | 48 => .array .int
  | 49 => .int
  | 50 => .int
  | 51 => .array .int
  | 52 => .array .int
  | 53 => .array .int
  | 54 => .array .int
  | 55 => .array .int
  | 56 => .array .int
  | 57 => .array .int
  | 58 => .int
  | 59 => .array .int
  | 60 => .array .int
  | 61 => .array .int
  | 62 => .array .int
  | 63 => .int
  | 64 => .int
  | 65 => .int
  | 66 => .int
  | 67 => .array .int
  | 68 => .int
  | 69 => .array .int
  | 70 => .int
  | 71 => .array .int
  | _ => .int
abbrev wsX100 : List Cond := u_ws RX10 TX10 73
set_option maxRecDepth 100000 in
theorem nmX10 : ∀ a, a < 73 → ∀ b, b < 73 → a ≠ b → (TX10 a).2.1 ≠ (TX10 b).2.1 := by decide +kernel
set_option maxRecDepth 100000 in
theorem tyX10_ok : ∀ k, k < 73 → parseFieldDescriptor (TX10 k).2.2.1 = some (tyX10 k) := by decide +kernel
theorem in_X10 : ∀ w ∈ wsX100, w ∈ lw_all := lw_in wsX100 [1621, 1623, 1625, 1627, 1629, 1631, 1633, 1635, 1637, 1639, 1641, 1643, 1645, 1647, 1649, 1651, 1653, 1655, 1657, 1659, 1661, 1663, 1665, 1667, 1669, 1671, 1673, 1675, 1677, 1679, 1681, 1683, 1685, 1687, 1689, 1691, 1693, 1695, 1697, 1699, 1701, 1703, 1705, 1707, 1709, 1711, 1713, 1715, 1717, 1719, 1721, 1723, 1725, 1727, 1729, 1731, 1733, 1735, 1737, 1739, 1741, 1743, 1745, 1747, 1749, 1751, 1753, 1755, 1757, 1759, 1761, 1763, 1765] (by decide +kernel) (by decide +kernel)
/-! RainWheel$RoadReader -/
set_option maxRecDepth 100000
def RX11 : String := "RainWheel$RoadReader"
def TX11 : u_T := fun k => match k with
  | 0 => ("RainWheel$RoadReader", "words", "[Ljava/lang/String;", true)
  | 1 => ("RainWheel$RoadReader", "in", "LRainWheel$Reader;", true)
  | 2 => ("RainWheel$RoadReader", "road", "LRainWheel$Road;", true)
  | _ => ("RainWheel$RoadReader", "clauses", "I", false)
def tyX11 : Nat → FieldType := fun k => match k with
  | 0 => .array (.object "java/lang/String")
  | 1 => .object "RainWheel$Reader"
  | 2 => .object "RainWheel$Road"
  | _ => .int
abbrev wsX110 : List Cond := u_ws RX11 TX11 4
theorem nmX11 : ∀ a, a < 4 → ∀ b, b < 4 → a ≠ b → (TX11 a).2.1 ≠ (TX11 b).2.1 := by decide +kernel
theorem tyX11_ok : ∀ k, k < 4 → parseFieldDescriptor (TX11 k).2.2.1 = some (tyX11 k) := by decide +kernel
theorem in_X11 : ∀ w ∈ wsX110, w ∈ lw_all := lw_in wsX110 [833, 835, 837, 839] (by decide +kernel) (by decide +kernel)
/-! RainWheel$Reader -/
set_option maxRecDepth 100000
def RX12 : String := "RainWheel$Reader"
def TX12 : u_T := fun k => match k with
  | 0 => ("RainWheel$Reader", "bytes", "[B", true)
  | 1 => ("RainWheel$Reader", "end", "I", true)
  | 2 => ("RainWheel$Reader", "at", "I", false)
  | _ => ("RainWheel$Reader", "open", "I", false)
def tyX12 : Nat → FieldType := fun k => match k with
  | 0 => .array .byte
  | 1 => .int
  | 2 => .int
  | _ => .int
abbrev wsX120 : List Cond := u_ws RX12 TX12 4
theorem nmX12 : ∀ a, a < 4 → ∀ b, b < 4 → a ≠ b → (TX12 a).2.1 ≠ (TX12 b).2.1 := by decide +kernel
theorem tyX12_ok : ∀ k, k < 4 → parseFieldDescriptor (TX12 k).2.2.1 = some (tyX12 k) := by decide +kernel
theorem in_X12 : ∀ w ∈ wsX120, w ∈ lw_all := lw_in wsX120 [800, 802, 804, 806] (by decide +kernel) (by decide +kernel)
/-! RainWheel$Wrong -/
set_option maxRecDepth 100000
def RX13 : String := "RainWheel$Wrong"
def TX13 : u_T := fun k => match k with
  | 0 => ("java/lang/Throwable", "cause", "Ljava/lang/Throwable;", false)
  | 1 => ("java/lang/Throwable", "stackTrace", "[Ljava/lang/StackTraceElement;", false)
  | 2 => ("java/lang/Throwable", "suppressedExceptions", "Ljava/util/List;", false)
  | 3 => ("java/lang/Throwable", "detailMessage", "Ljava/lang/String;", false)
  | 4 => ("java/lang/Throwable", "backtrace", "Ljava/lang/Object;", false)
  | 5 => ("java/lang/Throwable", "depth", "I", false)
  | 6 => ("RainWheel$Wrong", "why", "I", true)
  | _ => ("RainWheel$Wrong", "where", "I", true)
def tyX13 : Nat → FieldType := fun k => match k with
  | 0 => .object "java/lang/Throwable"
  | 1 => .array (.object "java/lang/StackTraceElement")
  | 2 => .object "java/util/List"
  | 3 => .object "java/lang/String"
  | 4 => .object "java/lang/Object"
  | 5 => .int
  | 6 => .int
  | _ => .int
abbrev wsX130 : List Cond := u_ws RX13 TX13 8
theorem nmX13 : ∀ a, a < 8 → ∀ b, b < 8 → a ≠ b → (TX13 a).2.1 ≠ (TX13 b).2.1 := by decide +kernel
theorem tyX13_ok : ∀ k, k < 8 → parseFieldDescriptor (TX13 k).2.2.1 = some (tyX13 k) := by decide +kernel
theorem in_X13 : ∀ w ∈ wsX130, w ∈ lw_all := lw_in wsX130 [927, 928, 929, 930, 931, 949, 945, 947] (by decide +kernel) (by decide +kernel)
/-! RainWheel$LawReader -/
set_option maxRecDepth 100000
def RX14 : String := "RainWheel$LawReader"
def TX14 : u_T := fun k => match k with
  | 0 => ("RainWheel$LawReader", "words", "[Ljava/lang/String;", true)
  | _ => ("RainWheel$LawReader", "in", "LRainWheel$Reader;", true)
def tyX14 : Nat → FieldType := fun k => match k with
  | 0 => .array (.object "java/lang/String")
  | _ => .object "RainWheel$Reader"
abbrev wsX140 : List Cond := u_ws RX14 TX14 2
theorem nmX14 : ∀ a, a < 2 → ∀ b, b < 2 → a ≠ b → (TX14 a).2.1 ≠ (TX14 b).2.1 := by decide +kernel
theorem tyX14_ok : ∀ k, k < 2 → parseFieldDescriptor (TX14 k).2.2.1 = some (tyX14 k) := by decide +kernel
theorem in_X14 : ∀ w ∈ wsX140, w ∈ lw_all := lw_in wsX140 [1013, 1015] (by decide +kernel) (by decide +kernel)
/-! RainWheel$Two -/
set_option maxRecDepth 100000
def RX15 : String := "RainWheel$Two"
def TX15 : u_T := fun k => match k with
  | 0 => ("RainWheel$Two", "sign", "C", true)
  | 1 => ("RainWheel$Two", "one", "LRainWheel$Term;", true)
  | _ => ("RainWheel$Two", "other", "LRainWheel$Term;", true)
def tyX15 : Nat → FieldType := fun k => match k with
  | 0 => .char
  | 1 => .object "RainWheel$Term"
  | _ => .object "RainWheel$Term"
abbrev wsX150 : List Cond := u_ws RX15 TX15 3
theorem nmX15 : ∀ a, a < 3 → ∀ b, b < 3 → a ≠ b → (TX15 a).2.1 ≠ (TX15 b).2.1 := by decide +kernel
theorem tyX15_ok : ∀ k, k < 3 → parseFieldDescriptor (TX15 k).2.2.1 = some (tyX15 k) := by decide +kernel
theorem in_X15 : ∀ w ∈ wsX150, w ∈ lw_all := lw_in wsX150 [1056, 1058, 1060] (by decide +kernel) (by decide +kernel)
/-! RainWheel$Amount -/
set_option maxRecDepth 100000
def RX16 : String := "RainWheel$Amount"
def TX16 : u_T := fun k => match k with
  | _ => ("RainWheel$Amount", "number", "I", true)
def tyX16 : Nat → FieldType := fun k => match k with
  | _ => .int
abbrev wsX160 : List Cond := u_ws RX16 TX16 1
theorem nmX16 : ∀ a, a < 1 → ∀ b, b < 1 → a ≠ b → (TX16 a).2.1 ≠ (TX16 b).2.1 := by decide +kernel
theorem tyX16_ok : ∀ k, k < 1 → parseFieldDescriptor (TX16 k).2.2.1 = some (tyX16 k) := by decide +kernel
theorem in_X16 : ∀ w ∈ wsX160, w ∈ lw_all := lw_in wsX160 [1073] (by decide +kernel) (by decide +kernel)
/-! RainWheel$Known -/
set_option maxRecDepth 100000
def RX17 : String := "RainWheel$Known"
def TX17 : u_T := fun k => match k with
  | _ => ("RainWheel$Known", "which", "I", true)
def tyX17 : Nat → FieldType := fun k => match k with
  | _ => .int
abbrev wsX170 : List Cond := u_ws RX17 TX17 1
theorem nmX17 : ∀ a, a < 1 → ∀ b, b < 1 → a ≠ b → (TX17 a).2.1 ≠ (TX17 b).2.1 := by decide +kernel
theorem tyX17_ok : ∀ k, k < 1 → parseFieldDescriptor (TX17 k).2.2.1 = some (tyX17 k) := by decide +kernel
theorem in_X17 : ∀ w ∈ wsX170, w ∈ lw_all := lw_in wsX170 [1083] (by decide +kernel) (by decide +kernel)
