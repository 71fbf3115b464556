set_option maxRecDepth 100000
/-! PLAIN 2: a road -/
def Rd : Type := (Nat) × (Nat) × (Nat) × (Nat) × (Nat) × (Nat → Int) × (Nat → Int) × (Nat → Int) × (Nat → Int) × (Nat → Int) × (Nat → Nat) × (Nat → Int) × (Nat → Int) × (Nat → Int) × (Nat → Int) × (Nat → Nat → Int) × (Nat → Bool) × (Int) × (Int) × (Int) × (Int) × (Int)
def Rd.P (h_ : Rd) : Nat := h_.1
def Rd.D (h_ : Rd) : Nat := h_.2.1
def Rd.B (h_ : Rd) : Nat := h_.2.2.1
def Rd.U (h_ : Rd) : Nat := h_.2.2.2.1
def Rd.C (h_ : Rd) : Nat := h_.2.2.2.2.1
def Rd.st (h_ : Rd) : Nat → Int := h_.2.2.2.2.2.1
def Rd.mi (h_ : Rd) : Nat → Int := h_.2.2.2.2.2.2.1
def Rd.ou (h_ : Rd) : Nat → Int := h_.2.2.2.2.2.2.2.1
def Rd.ha (h_ : Rd) : Nat → Int := h_.2.2.2.2.2.2.2.2.1
def Rd.sg (h_ : Rd) : Nat → Int := h_.2.2.2.2.2.2.2.2.2.1
def Rd.ne (h_ : Rd) : Nat → Nat := h_.2.2.2.2.2.2.2.2.2.2.1
def Rd.be (h_ : Rd) : Nat → Int := h_.2.2.2.2.2.2.2.2.2.2.2.1
def Rd.br (h_ : Rd) : Nat → Int := h_.2.2.2.2.2.2.2.2.2.2.2.2.1
def Rd.ru (h_ : Rd) : Nat → Int := h_.2.2.2.2.2.2.2.2.2.2.2.2.2.1
def Rd.li (h_ : Rd) : Nat → Int := h_.2.2.2.2.2.2.2.2.2.2.2.2.2.2.1
def Rd.sh (h_ : Rd) : Nat → Nat → Int := h_.2.2.2.2.2.2.2.2.2.2.2.2.2.2.2.1
def Rd.ra (h_ : Rd) : Nat → Bool := h_.2.2.2.2.2.2.2.2.2.2.2.2.2.2.2.2.1
def Rd.load (h_ : Rd) : Int := h_.2.2.2.2.2.2.2.2.2.2.2.2.2.2.2.2.2.1
def Rd.stops (h_ : Rd) : Int := h_.2.2.2.2.2.2.2.2.2.2.2.2.2.2.2.2.2.2.1
def Rd.loses (h_ : Rd) : Int := h_.2.2.2.2.2.2.2.2.2.2.2.2.2.2.2.2.2.2.2.1
def Rd.soft (h_ : Rd) : Int := h_.2.2.2.2.2.2.2.2.2.2.2.2.2.2.2.2.2.2.2.2.1
def Rd.each (h_ : Rd) : Int := h_.2.2.2.2.2.2.2.2.2.2.2.2.2.2.2.2.2.2.2.2.2
def Rd.mk (P_ : Nat) (D_ : Nat) (B_ : Nat) (U_ : Nat) (C_ : Nat) (st_ : Nat → Int) (mi_ : Nat → Int) (ou_ : Nat → Int) (ha_ : Nat → Int) (sg_ : Nat → Int) (ne_ : Nat → Nat) (be_ : Nat → Int) (br_ : Nat → Int) (ru_ : Nat → Int) (li_ : Nat → Int) (sh_ : Nat → Nat → Int) (ra_ : Nat → Bool) (load_ : Int) (stops_ : Int) (loses_ : Int) (soft_ : Int) (each_ : Int) : Rd := (P_, D_, B_, U_, C_, st_, mi_, ou_, ha_, sg_, ne_, be_, br_, ru_, li_, sh_, ra_, load_, stops_, loses_, soft_, each_)
def RdOK (rd : Rd) : Prop := (rd.P ≤ 4) ∧ (rd.D ≤ 12) ∧ (rd.B ≤ 6) ∧ (rd.U ≤ 8) ∧ (rd.C ≤ 4) ∧ (∀ p, p < rd.P → 1 ≤ rd.st p ∧ rd.st p ≤ 9) ∧ (∀ d, d < rd.D → 1 ≤ rd.mi d ∧ rd.mi d ≤ 30) ∧ (∀ d, d < rd.D → 0 ≤ rd.ou d ∧ rd.ou d ≤ 1) ∧ (∀ d, d < rd.D → 1 ≤ rd.ha d ∧ rd.ha d ≤ 2) ∧ (∀ d, d < rd.D → 0 ≤ rd.sg d ∧ rd.sg d ≤ 18) ∧ (∀ d, d < rd.D → rd.ne d < 2 ^ d) ∧ (∀ y, y < 60 → 0 ≤ rd.be y ∧ rd.be y ≤ 20) ∧ (∀ b, b < rd.B → 1 ≤ rd.br b ∧ rd.br b ≤ 9) ∧ (∀ u, u < rd.U → 0 ≤ rd.ru u ∧ rd.ru u ≤ 15) ∧ (∀ c, c < rd.C → 1 ≤ rd.li c ∧ rd.li c ≤ 16) ∧ (∀ c s, c < rd.C → s < 3 → 0 ≤ rd.sh c s ∧ rd.sh c s ≤ 16) ∧ (1 ≤ rd.load ∧ rd.load ≤ 99) ∧ (0 ≤ rd.stops ∧ rd.stops ≤ 16) ∧ (0 ≤ rd.loses ∧ rd.loses ≤ 16) ∧ (0 ≤ rd.soft ∧ rd.soft ≤ 99) ∧ (1 ≤ rd.each ∧ rd.each ≤ 9)
theorem RdOK.P {rd : Rd} (h_ : RdOK rd) : rd.P ≤ 4 := h_.1
theorem RdOK.D {rd : Rd} (h_ : RdOK rd) : rd.D ≤ 12 := h_.2.1
theorem RdOK.B {rd : Rd} (h_ : RdOK rd) : rd.B ≤ 6 := h_.2.2.1
theorem RdOK.U {rd : Rd} (h_ : RdOK rd) : rd.U ≤ 8 := h_.2.2.2.1
theorem RdOK.C {rd : Rd} (h_ : RdOK rd) : rd.C ≤ 4 := h_.2.2.2.2.1
theorem RdOK.st {rd : Rd} (h_ : RdOK rd) : ∀ p, p < rd.P → 1 ≤ rd.st p ∧ rd.st p ≤ 9 := h_.2.2.2.2.2.1
theorem RdOK.mi {rd : Rd} (h_ : RdOK rd) : ∀ d, d < rd.D → 1 ≤ rd.mi d ∧ rd.mi d ≤ 30 := h_.2.2.2.2.2.2.1
theorem RdOK.ou {rd : Rd} (h_ : RdOK rd) : ∀ d, d < rd.D → 0 ≤ rd.ou d ∧ rd.ou d ≤ 1 := h_.2.2.2.2.2.2.2.1
theorem RdOK.ha {rd : Rd} (h_ : RdOK rd) : ∀ d, d < rd.D → 1 ≤ rd.ha d ∧ rd.ha d ≤ 2 := h_.2.2.2.2.2.2.2.2.1
theorem RdOK.sg {rd : Rd} (h_ : RdOK rd) : ∀ d, d < rd.D → 0 ≤ rd.sg d ∧ rd.sg d ≤ 18 := h_.2.2.2.2.2.2.2.2.2.1
theorem RdOK.ne {rd : Rd} (h_ : RdOK rd) : ∀ d, d < rd.D → rd.ne d < 2 ^ d := h_.2.2.2.2.2.2.2.2.2.2.1
theorem RdOK.be {rd : Rd} (h_ : RdOK rd) : ∀ y, y < 60 → 0 ≤ rd.be y ∧ rd.be y ≤ 20 := h_.2.2.2.2.2.2.2.2.2.2.2.1
theorem RdOK.br {rd : Rd} (h_ : RdOK rd) : ∀ b, b < rd.B → 1 ≤ rd.br b ∧ rd.br b ≤ 9 := h_.2.2.2.2.2.2.2.2.2.2.2.2.1
theorem RdOK.ru {rd : Rd} (h_ : RdOK rd) : ∀ u, u < rd.U → 0 ≤ rd.ru u ∧ rd.ru u ≤ 15 := h_.2.2.2.2.2.2.2.2.2.2.2.2.2.1
theorem RdOK.li {rd : Rd} (h_ : RdOK rd) : ∀ c, c < rd.C → 1 ≤ rd.li c ∧ rd.li c ≤ 16 := h_.2.2.2.2.2.2.2.2.2.2.2.2.2.2.1
theorem RdOK.sh {rd : Rd} (h_ : RdOK rd) : ∀ c s, c < rd.C → s < 3 → 0 ≤ rd.sh c s ∧ rd.sh c s ≤ 16 := h_.2.2.2.2.2.2.2.2.2.2.2.2.2.2.2.1
theorem RdOK.load {rd : Rd} (h_ : RdOK rd) : 1 ≤ rd.load ∧ rd.load ≤ 99 := h_.2.2.2.2.2.2.2.2.2.2.2.2.2.2.2.2.1
theorem RdOK.stops {rd : Rd} (h_ : RdOK rd) : 0 ≤ rd.stops ∧ rd.stops ≤ 16 := h_.2.2.2.2.2.2.2.2.2.2.2.2.2.2.2.2.2.1
theorem RdOK.loses {rd : Rd} (h_ : RdOK rd) : 0 ≤ rd.loses ∧ rd.loses ≤ 16 := h_.2.2.2.2.2.2.2.2.2.2.2.2.2.2.2.2.2.2.1
theorem RdOK.soft {rd : Rd} (h_ : RdOK rd) : 0 ≤ rd.soft ∧ rd.soft ≤ 99 := h_.2.2.2.2.2.2.2.2.2.2.2.2.2.2.2.2.2.2.2.1
theorem RdOK.each {rd : Rd} (h_ : RdOK rd) : 1 ≤ rd.each ∧ rd.each ≤ 9 := h_.2.2.2.2.2.2.2.2.2.2.2.2.2.2.2.2.2.2.2.2
theorem RdOK.mk {rd : Rd} (P_ : rd.P ≤ 4) (D_ : rd.D ≤ 12) (B_ : rd.B ≤ 6) (U_ : rd.U ≤ 8) (C_ : rd.C ≤ 4) (st_ : ∀ p, p < rd.P → 1 ≤ rd.st p ∧ rd.st p ≤ 9) (mi_ : ∀ d, d < rd.D → 1 ≤ rd.mi d ∧ rd.mi d ≤ 30) (ou_ : ∀ d, d < rd.D → 0 ≤ rd.ou d ∧ rd.ou d ≤ 1) (ha_ : ∀ d, d < rd.D → 1 ≤ rd.ha d ∧ rd.ha d ≤ 2) (sg_ : ∀ d, d < rd.D → 0 ≤ rd.sg d ∧ rd.sg d ≤ 18) (ne_ : ∀ d, d < rd.D → rd.ne d < 2 ^ d) (be_ : ∀ y, y < 60 → 0 ≤ rd.be y ∧ rd.be y ≤ 20) (br_ : ∀ b, b < rd.B → 1 ≤ rd.br b ∧ rd.br b ≤ 9) (ru_ : ∀ u, u < rd.U → 0 ≤ rd.ru u ∧ rd.ru u ≤ 15) (li_ : ∀ c, c < rd.C → 1 ≤ rd.li c ∧ rd.li c ≤ 16) (sh_ : ∀ c s, c < rd.C → s < 3 → 0 ≤ rd.sh c s ∧ rd.sh c s ≤ 16) (load_ : 1 ≤ rd.load ∧ rd.load ≤ 99) (stops_ : 0 ≤ rd.stops ∧ rd.stops ≤ 16) (loses_ : 0 ≤ rd.loses ∧ rd.loses ≤ 16) (soft_ : 0 ≤ rd.soft ∧ rd.soft ≤ 99) (each_ : 1 ≤ rd.each ∧ rd.each ≤ 9) : RdOK rd := ⟨P_, D_, B_, U_, C_, st_, mi_, ou_, ha_, sg_, ne_, be_, br_, ru_, li_, sh_, load_, stops_, loses_, soft_, each_⟩
def XRd (r : Nat) (g : GS) (rd : Rd) : Prop := (gI g 813 r = rd.P) ∧ (gI g 814 r = rd.D) ∧ (∃ n : Nat, n ≤ 6 ∧ gI g 815 r = n ∧ (∀ k, k < n → 0 ≤ gA g (r + 7) k ∧ gA g (r + 7) k ≤ 240 ∧ 0 ≤ gA g (r + 8) k ∧ gA g (r + 8) k ≤ 240) ∧ ∀ t : Nat, t ≤ 240 → (rd.ra t = true ↔ ∃ k, k < n ∧ gA g (r + 7) k ≤ t ∧ (t : Int) ≤ gA g (r + 8) k)) ∧ (gI g 816 r = rd.B) ∧ (gI g 817 r = rd.U) ∧ (gI g 818 r = rd.C) ∧ (gI g 819 r = rd.load) ∧ (gI g 820 r = rd.stops) ∧ (gI g 821 r = rd.loses) ∧ (gI g 822 r = rd.soft) ∧ (gI g 823 r = rd.each) ∧ (∀ p, p < rd.P → gA g (r + 1) p = rd.st p) ∧ (∀ d, d < rd.D → gA g (r + 2) d = rd.mi d) ∧ (∀ d, d < rd.D → gA g (r + 3) d = rd.ou d) ∧ (∀ d, d < rd.D → gA g (r + 4) d = rd.ha d) ∧ (∀ d, d < rd.D → gA g (r + 5) d = rd.sg d) ∧ (∀ d, d < rd.D → gA g (r + 6) d = rd.ne d) ∧ (∀ y, y < 60 → gA g (r + 9) y = rd.be y) ∧ (∀ b, b < rd.B → gA g (r + 10) b = rd.br b) ∧ (∀ u, u < rd.U → gA g (r + 11) u = rd.ru u) ∧ (∀ c, c < rd.C → gA g (r + 12) c = rd.li c) ∧ (∀ c, c < 4 → gA g (r + 13) c = ((r + 14 + c : Nat) : Int)) ∧ (∀ c s, c < rd.C → c < 4 → s < 3 → gA g (r + 14 + c) s = rd.sh c s)
theorem XRd.P {r : Nat} {g : GS} {rd : Rd} (h_ : XRd r g rd) : gI g 813 r = rd.P := h_.1
theorem XRd.D {r : Nat} {g : GS} {rd : Rd} (h_ : XRd r g rd) : gI g 814 r = rd.D := h_.2.1
theorem XRd.nr {r : Nat} {g : GS} {rd : Rd} (h_ : XRd r g rd) : ∃ n : Nat, n ≤ 6 ∧ gI g 815 r = n ∧ (∀ k, k < n → 0 ≤ gA g (r + 7) k ∧ gA g (r + 7) k ≤ 240 ∧ 0 ≤ gA g (r + 8) k ∧ gA g (r + 8) k ≤ 240) ∧ ∀ t : Nat, t ≤ 240 → (rd.ra t = true ↔ ∃ k, k < n ∧ gA g (r + 7) k ≤ t ∧ (t : Int) ≤ gA g (r + 8) k) := h_.2.2.1
theorem XRd.B {r : Nat} {g : GS} {rd : Rd} (h_ : XRd r g rd) : gI g 816 r = rd.B := h_.2.2.2.1
theorem XRd.U {r : Nat} {g : GS} {rd : Rd} (h_ : XRd r g rd) : gI g 817 r = rd.U := h_.2.2.2.2.1
theorem XRd.C {r : Nat} {g : GS} {rd : Rd} (h_ : XRd r g rd) : gI g 818 r = rd.C := h_.2.2.2.2.2.1
theorem XRd.load {r : Nat} {g : GS} {rd : Rd} (h_ : XRd r g rd) : gI g 819 r = rd.load := h_.2.2.2.2.2.2.1
theorem XRd.stops {r : Nat} {g : GS} {rd : Rd} (h_ : XRd r g rd) : gI g 820 r = rd.stops := h_.2.2.2.2.2.2.2.1
theorem XRd.loses {r : Nat} {g : GS} {rd : Rd} (h_ : XRd r g rd) : gI g 821 r = rd.loses := h_.2.2.2.2.2.2.2.2.1
theorem XRd.soft {r : Nat} {g : GS} {rd : Rd} (h_ : XRd r g rd) : gI g 822 r = rd.soft := h_.2.2.2.2.2.2.2.2.2.1
theorem XRd.each {r : Nat} {g : GS} {rd : Rd} (h_ : XRd r g rd) : gI g 823 r = rd.each := h_.2.2.2.2.2.2.2.2.2.2.1
theorem XRd.st {r : Nat} {g : GS} {rd : Rd} (h_ : XRd r g rd) : ∀ p, p < rd.P → gA g (r + 1) p = rd.st p := h_.2.2.2.2.2.2.2.2.2.2.2.1
theorem XRd.mi {r : Nat} {g : GS} {rd : Rd} (h_ : XRd r g rd) : ∀ d, d < rd.D → gA g (r + 2) d = rd.mi d := h_.2.2.2.2.2.2.2.2.2.2.2.2.1
theorem XRd.ou {r : Nat} {g : GS} {rd : Rd} (h_ : XRd r g rd) : ∀ d, d < rd.D → gA g (r + 3) d = rd.ou d := h_.2.2.2.2.2.2.2.2.2.2.2.2.2.1
theorem XRd.ha {r : Nat} {g : GS} {rd : Rd} (h_ : XRd r g rd) : ∀ d, d < rd.D → gA g (r + 4) d = rd.ha d := h_.2.2.2.2.2.2.2.2.2.2.2.2.2.2.1
theorem XRd.sg {r : Nat} {g : GS} {rd : Rd} (h_ : XRd r g rd) : ∀ d, d < rd.D → gA g (r + 5) d = rd.sg d := h_.2.2.2.2.2.2.2.2.2.2.2.2.2.2.2.1
theorem XRd.ne {r : Nat} {g : GS} {rd : Rd} (h_ : XRd r g rd) : ∀ d, d < rd.D → gA g (r + 6) d = rd.ne d := h_.2.2.2.2.2.2.2.2.2.2.2.2.2.2.2.2.1
theorem XRd.be {r : Nat} {g : GS} {rd : Rd} (h_ : XRd r g rd) : ∀ y, y < 60 → gA g (r + 9) y = rd.be y := h_.2.2.2.2.2.2.2.2.2.2.2.2.2.2.2.2.2.1
theorem XRd.br {r : Nat} {g : GS} {rd : Rd} (h_ : XRd r g rd) : ∀ b, b < rd.B → gA g (r + 10) b = rd.br b := h_.2.2.2.2.2.2.2.2.2.2.2.2.2.2.2.2.2.2.1
theorem XRd.ru {r : Nat} {g : GS} {rd : Rd} (h_ : XRd r g rd) : ∀ u, u < rd.U → gA g (r + 11) u = rd.ru u := h_.2.2.2.2.2.2.2.2.2.2.2.2.2.2.2.2.2.2.2.1
theorem XRd.li {r : Nat} {g : GS} {rd : Rd} (h_ : XRd r g rd) : ∀ c, c < rd.C → gA g (r + 12) c = rd.li c := h_.2.2.2.2.2.2.2.2.2.2.2.2.2.2.2.2.2.2.2.2.1
theorem XRd.sw {r : Nat} {g : GS} {rd : Rd} (h_ : XRd r g rd) : ∀ c, c < 4 → gA g (r + 13) c = ((r + 14 + c : Nat) : Int) := h_.2.2.2.2.2.2.2.2.2.2.2.2.2.2.2.2.2.2.2.2.2.1
theorem XRd.sh {r : Nat} {g : GS} {rd : Rd} (h_ : XRd r g rd) : ∀ c s, c < rd.C → c < 4 → s < 3 → gA g (r + 14 + c) s = rd.sh c s := h_.2.2.2.2.2.2.2.2.2.2.2.2.2.2.2.2.2.2.2.2.2.2
theorem XRd.mk {r : Nat} {g : GS} {rd : Rd} (P_ : gI g 813 r = rd.P) (D_ : gI g 814 r = rd.D) (nr_ : ∃ n : Nat, n ≤ 6 ∧ gI g 815 r = n ∧ (∀ k, k < n → 0 ≤ gA g (r + 7) k ∧ gA g (r + 7) k ≤ 240 ∧ 0 ≤ gA g (r + 8) k ∧ gA g (r + 8) k ≤ 240) ∧ ∀ t : Nat, t ≤ 240 → (rd.ra t = true ↔ ∃ k, k < n ∧ gA g (r + 7) k ≤ t ∧ (t : Int) ≤ gA g (r + 8) k)) (B_ : gI g 816 r = rd.B) (U_ : gI g 817 r = rd.U) (C_ : gI g 818 r = rd.C) (load_ : gI g 819 r = rd.load) (stops_ : gI g 820 r = rd.stops) (loses_ : gI g 821 r = rd.loses) (soft_ : gI g 822 r = rd.soft) (each_ : gI g 823 r = rd.each) (st_ : ∀ p, p < rd.P → gA g (r + 1) p = rd.st p) (mi_ : ∀ d, d < rd.D → gA g (r + 2) d = rd.mi d) (ou_ : ∀ d, d < rd.D → gA g (r + 3) d = rd.ou d) (ha_ : ∀ d, d < rd.D → gA g (r + 4) d = rd.ha d) (sg_ : ∀ d, d < rd.D → gA g (r + 5) d = rd.sg d) (ne_ : ∀ d, d < rd.D → gA g (r + 6) d = rd.ne d) (be_ : ∀ y, y < 60 → gA g (r + 9) y = rd.be y) (br_ : ∀ b, b < rd.B → gA g (r + 10) b = rd.br b) (ru_ : ∀ u, u < rd.U → gA g (r + 11) u = rd.ru u) (li_ : ∀ c, c < rd.C → gA g (r + 12) c = rd.li c) (sw_ : ∀ c, c < 4 → gA g (r + 13) c = ((r + 14 + c : Nat) : Int)) (sh_ : ∀ c s, c < rd.C → c < 4 → s < 3 → gA g (r + 14 + c) s = rd.sh c s) : XRd r g rd := ⟨P_, D_, nr_, B_, U_, C_, load_, stops_, loses_, soft_, each_, st_, mi_, ou_, ha_, sg_, ne_, be_, br_, ru_, li_, sw_, sh_⟩
def MRd (g : GS) (rd : Rd) : Prop := (gI g 932 0 = rd.P) ∧ (gI g 933 0 = rd.D) ∧ (gI g 934 0 = rd.B) ∧ (gI g 935 0 = rd.U) ∧ (gI g 936 0 = rd.C) ∧ (∀ p, p < rd.P → gA g 9 p = rd.st p) ∧ (∀ d, d < rd.D → gA g 10 (5 * d) = rd.mi d) ∧ (∀ d, d < rd.D → gA g 10 (5 * d + 1) = rd.ou d) ∧ (∀ d, d < rd.D → gA g 10 (5 * d + 2) = rd.ha d) ∧ (∀ d, d < rd.D → gA g 10 (5 * d + 3) = rd.sg d) ∧ (∀ d, d < rd.D → gA g 10 (5 * d + 4) = rd.ne d) ∧ (∀ y, y < 60 → gA g 11 y = rd.be y) ∧ (∀ b, b < rd.B → gA g 12 b = rd.br b) ∧ (∀ u, u < rd.U → gA g 13 u = rd.ru u) ∧ (∀ c, c < rd.C → gA g 14 (4 * c) = rd.li c) ∧ (∀ c s, c < rd.C → s < 3 → gA g 14 (4 * c + 1 + s) = rd.sh c s) ∧ (gA g 18 0 = rd.load) ∧ (gA g 18 1 = rd.stops) ∧ (gA g 18 2 = rd.loses) ∧ (gA g 18 3 = rd.soft) ∧ (gA g 18 4 = rd.each) ∧ (∀ t, t < 241 → gA g 16 t = if rd.ra t then 1 else 0)
theorem MRd.P {g : GS} {rd : Rd} (h_ : MRd g rd) : gI g 932 0 = rd.P := h_.1
theorem MRd.D {g : GS} {rd : Rd} (h_ : MRd g rd) : gI g 933 0 = rd.D := h_.2.1
theorem MRd.B {g : GS} {rd : Rd} (h_ : MRd g rd) : gI g 934 0 = rd.B := h_.2.2.1
theorem MRd.U {g : GS} {rd : Rd} (h_ : MRd g rd) : gI g 935 0 = rd.U := h_.2.2.2.1
theorem MRd.C {g : GS} {rd : Rd} (h_ : MRd g rd) : gI g 936 0 = rd.C := h_.2.2.2.2.1
theorem MRd.st {g : GS} {rd : Rd} (h_ : MRd g rd) : ∀ p, p < rd.P → gA g 9 p = rd.st p := h_.2.2.2.2.2.1
theorem MRd.mi {g : GS} {rd : Rd} (h_ : MRd g rd) : ∀ d, d < rd.D → gA g 10 (5 * d) = rd.mi d := h_.2.2.2.2.2.2.1
theorem MRd.ou {g : GS} {rd : Rd} (h_ : MRd g rd) : ∀ d, d < rd.D → gA g 10 (5 * d + 1) = rd.ou d := h_.2.2.2.2.2.2.2.1
theorem MRd.ha {g : GS} {rd : Rd} (h_ : MRd g rd) : ∀ d, d < rd.D → gA g 10 (5 * d + 2) = rd.ha d := h_.2.2.2.2.2.2.2.2.1
theorem MRd.sg {g : GS} {rd : Rd} (h_ : MRd g rd) : ∀ d, d < rd.D → gA g 10 (5 * d + 3) = rd.sg d := h_.2.2.2.2.2.2.2.2.2.1
theorem MRd.ne {g : GS} {rd : Rd} (h_ : MRd g rd) : ∀ d, d < rd.D → gA g 10 (5 * d + 4) = rd.ne d := h_.2.2.2.2.2.2.2.2.2.2.1
theorem MRd.be {g : GS} {rd : Rd} (h_ : MRd g rd) : ∀ y, y < 60 → gA g 11 y = rd.be y := h_.2.2.2.2.2.2.2.2.2.2.2.1
theorem MRd.br {g : GS} {rd : Rd} (h_ : MRd g rd) : ∀ b, b < rd.B → gA g 12 b = rd.br b := h_.2.2.2.2.2.2.2.2.2.2.2.2.1
theorem MRd.ru {g : GS} {rd : Rd} (h_ : MRd g rd) : ∀ u, u < rd.U → gA g 13 u = rd.ru u := h_.2.2.2.2.2.2.2.2.2.2.2.2.2.1
theorem MRd.li {g : GS} {rd : Rd} (h_ : MRd g rd) : ∀ c, c < rd.C → gA g 14 (4 * c) = rd.li c := h_.2.2.2.2.2.2.2.2.2.2.2.2.2.2.1
theorem MRd.sh {g : GS} {rd : Rd} (h_ : MRd g rd) : ∀ c s, c < rd.C → s < 3 → gA g 14 (4 * c + 1 + s) = rd.sh c s := h_.2.2.2.2.2.2.2.2.2.2.2.2.2.2.2.1
theorem MRd.load {g : GS} {rd : Rd} (h_ : MRd g rd) : gA g 18 0 = rd.load := h_.2.2.2.2.2.2.2.2.2.2.2.2.2.2.2.2.1
theorem MRd.stops {g : GS} {rd : Rd} (h_ : MRd g rd) : gA g 18 1 = rd.stops := h_.2.2.2.2.2.2.2.2.2.2.2.2.2.2.2.2.2.1
theorem MRd.loses {g : GS} {rd : Rd} (h_ : MRd g rd) : gA g 18 2 = rd.loses := h_.2.2.2.2.2.2.2.2.2.2.2.2.2.2.2.2.2.2.1
theorem MRd.soft {g : GS} {rd : Rd} (h_ : MRd g rd) : gA g 18 3 = rd.soft := h_.2.2.2.2.2.2.2.2.2.2.2.2.2.2.2.2.2.2.2.1
theorem MRd.each {g : GS} {rd : Rd} (h_ : MRd g rd) : gA g 18 4 = rd.each := h_.2.2.2.2.2.2.2.2.2.2.2.2.2.2.2.2.2.2.2.2.1
theorem MRd.ra {g : GS} {rd : Rd} (h_ : MRd g rd) : ∀ t, t < 241 → gA g 16 t = if rd.ra t then 1 else 0 := h_.2.2.2.2.2.2.2.2.2.2.2.2.2.2.2.2.2.2.2.2.2
theorem MRd.mk {g : GS} {rd : Rd} (P_ : gI g 932 0 = rd.P) (D_ : gI g 933 0 = rd.D) (B_ : gI g 934 0 = rd.B) (U_ : gI g 935 0 = rd.U) (C_ : gI g 936 0 = rd.C) (st_ : ∀ p, p < rd.P → gA g 9 p = rd.st p) (mi_ : ∀ d, d < rd.D → gA g 10 (5 * d) = rd.mi d) (ou_ : ∀ d, d < rd.D → gA g 10 (5 * d + 1) = rd.ou d) (ha_ : ∀ d, d < rd.D → gA g 10 (5 * d + 2) = rd.ha d) (sg_ : ∀ d, d < rd.D → gA g 10 (5 * d + 3) = rd.sg d) (ne_ : ∀ d, d < rd.D → gA g 10 (5 * d + 4) = rd.ne d) (be_ : ∀ y, y < 60 → gA g 11 y = rd.be y) (br_ : ∀ b, b < rd.B → gA g 12 b = rd.br b) (ru_ : ∀ u, u < rd.U → gA g 13 u = rd.ru u) (li_ : ∀ c, c < rd.C → gA g 14 (4 * c) = rd.li c) (sh_ : ∀ c s, c < rd.C → s < 3 → gA g 14 (4 * c + 1 + s) = rd.sh c s) (load_ : gA g 18 0 = rd.load) (stops_ : gA g 18 1 = rd.stops) (loses_ : gA g 18 2 = rd.loses) (soft_ : gA g 18 3 = rd.soft) (each_ : gA g 18 4 = rd.each) (ra_ : ∀ t, t < 241 → gA g 16 t = if rd.ra t then 1 else 0) : MRd g rd := ⟨P_, D_, B_, U_, C_, st_, mi_, ou_, ha_, sg_, ne_, be_, br_, ru_, li_, sh_, load_, stops_, loses_, soft_, each_, ra_⟩
def strS (rd : Rd) (w : Nat) : Int := sumN rd.P fun p => if w.testBit p then rd.st p else 0
theorem strS_bd {rd : Rd} (ok : RdOK rd) (w i : Nat) (hi : i ≤ rd.P) : 0 ≤ sumN i (fun p => if w.testBit p then rd.st p else 0) ∧ sumN i (fun p => if w.testBit p then rd.st p else 0) ≤ 36 := by
  have h := sumN_bd (n := i) (b := 9) (f := fun p => if w.testBit p then rd.st p else 0) fun k hk => by
    have := ok.st k (by omega)
    split <;> omega
  have := ok.P
  omega
variable {N : Nat} {K : Nat → Nat} {r : Nat} {g gm : GS} {rd : Rd}
theorem xRoad_strongOf_eq (hN : 100000000000000000000 ≤ N) (ok : RdOK rd) (h : XRd r g rd) {w : Nat} (hw : w < 16) : xRoad_strongOf N r g w = some (strS rd w) := by
  have hP := ok.P
  unfold xRoad_strongOf
  refine loop_up' (fun i => (sumN i (fun p => if w.testBit p then rd.st p else 0), (i : Int))) rd.P _ rfl (fun i hi => ?_) ?_ (by omega)
  · have hb := strS_bd ok w i (by omega)
    by_cases e : w.testBit i
    · simp (disch := omega) [xRoad_strongOf_b4, h.P, w32_of, bit_at, e, rdA_nat, obind_some, h.st i hi, sumN]
      omega
    · simp (disch := omega) [xRoad_strongOf_b4, h.P, w32_of, bit_at, e, rdA_nat, obind_some, h.st i hi, sumN]
      omega
  · simp (disch := omega) [xRoad_strongOf_b4, h.P, w32_of, outR_eq, strS]
