/-! PURE LAW: what holds between the system's state U and the reference's V -/
/-- how many of n things are 3 or 4 -/
def cnt (f : Nat → Int) : Nat → Nat
  | 0 => 0
  | n + 1 => cnt f n + (if f n = 3 ∨ f n = 4 then 1 else 0)
def RR (U V : gV) : Prop := (U 1 = V 1) ∧
  (U 2 = V 2) ∧
  (U 4 = V 4) ∧
  (U 6 = V 6) ∧
  (U 7 = V 7) ∧
  (U 10 = V 10) ∧
  (U 11 = V 11) ∧
  (U 12 = V 12) ∧
  (U 13 = V 13) ∧
  (U 14 = V 14) ∧
  (U 15 = V 15) ∧
  (U 17 = V 17) ∧
  (U 18 = V 18) ∧
  (U 19 = V 19) ∧
  (U 20 = V 20) ∧
  (U 21 = V 21) ∧
  (U 23 = V 23) ∧
  (U 24 = V 24) ∧
  (U 25 = V 25) ∧
  (U 26 = V 26) ∧
  (U 27 = V 27) ∧
  (U 28 = V 28) ∧
  (U 29 = V 29) ∧
  (0 ≤ U 1 0 ∧ U 1 0 ≤ 10000) ∧
  (0 ≤ U 2 0 ∧ U 2 0 ≤ 30) ∧
  (0 ≤ U 11 0 ∧ U 11 0 ≤ 60) ∧
  (0 ≤ U 17 0 ∧ U 17 0 ≤ 40) ∧
  (0 ≤ U 25 0 ∧ U 25 0 ≤ 40) ∧
  (0 ≤ U 33 0 ∧ U 33 0 ≤ 64) ∧
  (U 41 0 = U 2 0) ∧
  (U 42 0 = U 17 0) ∧
  (U 43 0 = U 11 0) ∧
  (U 45 0 = U 25 0) ∧
  (U 46 0 = U 33 0) ∧
  (∀ j : Int, 0 ≤ j → j < U 2 0 → -1 ≤ U 3 j.toNat ∧ U 3 j.toNat ≤ 14) ∧
  (∀ j : Int, 0 ≤ j → j < U 2 0 → -1 ≤ U 4 j.toNat ∧ U 4 j.toNat ≤ 3) ∧
  (∀ j : Int, 0 ≤ j → j < U 2 0 → -1 ≤ U 5 j.toNat ∧ U 5 j.toNat < U 17 0) ∧
  (∀ j : Int, 0 ≤ j → j < 15 → 0 ≤ U 6 j.toNat ∧ U 6 j.toNat ≤ 6) ∧
  (∀ a k : Int, 0 ≤ a → a < 15 → 0 ≤ k → k < U 6 a.toNat → 0 ≤ U 7 (6 * a + k).toNat ∧ U 7 (6 * a + k).toNat < U 2 0) ∧
  (∀ j : Int, 0 ≤ j → j < 16 → U 8 j.toNat = 0 ∨ U 8 j.toNat = 1) ∧
  (∀ j : Int, 0 ≤ j → j < 6 → -1 ≤ U 9 j.toNat ∧ U 9 j.toNat < U 11 0) ∧
  (∀ j : Int, 0 ≤ j → j < 6 → U 30 j.toNat = 0 ∨ U 30 j.toNat = 1) ∧
  (∀ j : Int, 0 ≤ j → j < 3 → 0 ≤ U 10 j.toNat ∧ U 10 j.toNat ≤ 3) ∧
  (∀ j : Int, 0 ≤ j → j < U 11 0 → 0 ≤ U 13 j.toNat ∧ U 13 j.toNat ≤ 5) ∧
  (∀ j : Int, 0 ≤ j → j < U 11 0 → 0 ≤ U 14 j.toNat ∧ U 14 j.toNat ≤ 2) ∧
  (∀ j : Int, 0 ≤ j → j < U 11 0 → U 15 j.toNat = 0 ∨ U 15 j.toNat = 1) ∧
  (∀ j : Int, 0 ≤ j → j < U 11 0 → -1 ≤ U 16 j.toNat ∧ U 16 j.toNat < U 17 0) ∧
  (∀ j : Int, 0 ≤ j → j < U 11 0 → 0 ≤ U 31 j.toNat ∧ U 31 j.toNat ≤ 2) ∧
  (∀ a k : Int, 0 ≤ a → a < U 11 0 → 0 ≤ k → k < U 31 a.toNat → 0 ≤ U 32 (2 * a + k).toNat ∧ U 32 (2 * a + k).toNat < 6) ∧
  (∀ j : Int, 0 ≤ j → j < U 17 0 → 0 ≤ U 18 j.toNat ∧ U 18 j.toNat ≤ 5) ∧
  (∀ j : Int, 0 ≤ j → j < U 17 0 → 0 ≤ U 19 j.toNat ∧ U 19 j.toNat ≤ 3) ∧
  (∀ j : Int, 0 ≤ j → j < U 17 0 → 0 ≤ U 20 j.toNat ∧ U 20 j.toNat ≤ 5) ∧
  (∀ j : Int, 0 ≤ j → j < U 17 0 → 0 ≤ U 21 j.toNat ∧ U 21 j.toNat ≤ 2) ∧
  (∀ j : Int, 0 ≤ j → j < U 17 0 → 0 ≤ U 22 j.toNat ∧ U 22 j.toNat ≤ 10010) ∧
  (∀ j : Int, 0 ≤ j → j < U 17 0 → 0 ≤ U 23 j.toNat ∧ U 23 j.toNat ≤ 30) ∧
  (∀ a k : Int, 0 ≤ a → a < U 17 0 → 0 ≤ k → k < U 23 a.toNat → 0 ≤ U 24 (30 * a + k).toNat ∧ U 24 (30 * a + k).toNat < U 2 0) ∧
  (∀ j : Int, 0 ≤ j → j < U 25 0 → 0 ≤ U 26 j.toNat ∧ U 26 j.toNat ≤ 2) ∧
  (∀ j : Int, 0 ≤ j → j < U 25 0 → U 27 j.toNat = 0 ∨ U 27 j.toNat = 1) ∧
  (∀ j : Int, 0 ≤ j → j < U 25 0 → 0 ≤ U 28 j.toNat ∧ U 28 j.toNat ≤ 6) ∧
  (∀ a k : Int, 0 ≤ a → a < U 25 0 → 0 ≤ k → k < U 28 a.toNat → 0 ≤ U 29 (6 * a + k).toNat ∧ U 29 (6 * a + k).toNat < U 2 0) ∧
  (∀ j : Int, 0 ≤ j → j < U 33 0 → 0 ≤ U 34 j.toNat ∧ U 34 j.toNat ≤ 3) ∧
  (∀ i : Nat, V 3 i = if U 3 i = -1 then -1 else 10 * (U 3 i / 5) + U 3 i % 5) ∧
  (∀ w : Int, 0 ≤ w → w < U 2 0 → U 5 w.toNat = if V 5 w.toNat < 0 ∨ 4 ≤ U 18 (V 5 w.toNat).toNat then -1 else V 5 w.toNat) ∧
  (∀ w : Int, 0 ≤ w → w < U 2 0 → -1 ≤ V 5 w.toNat ∧ V 5 w.toNat < U 17 0) ∧
  (∀ f g : Int, 0 ≤ f → f < 4 → 0 ≤ g → g < 4 → fBit (V 8 f.toNat) g = U 8 (4 * f + g).toNat) ∧
  (∀ f : Int, 0 ≤ f → f < 4 → 0 ≤ V 8 f.toNat ∧ V 8 f.toNat ≤ 15) ∧
  (∀ k : Int, 0 ≤ k → k < 6 → V 9 k.toNat = if U 30 k.toNat = 1 then -2 else U 9 k.toNat) ∧
  (∀ k : Int, 0 ≤ k → k < 6 → U 30 k.toNat = 1 → U 9 k.toNat = -1) ∧
  (∀ c : Int, 0 ≤ c → c < U 11 0 → U 15 c.toNat = 1 → V 16 c.toNat = U 16 c.toNat) ∧
  (∀ c : Int, 0 ≤ c → c < U 11 0 → -1 ≤ V 16 c.toNat ∧ V 16 c.toNat < U 17 0) ∧
  (∀ b : Int, 0 ≤ b → b < U 17 0 → U 18 b.toNat = 1 → V 22 b.toNat = U 22 b.toNat) ∧
  (∀ i : Nat, 0 ≤ V 22 i ∧ V 22 i ≤ 10010) ∧
  (∀ k : Int, 0 ≤ k → k < 6 → 0 ≤ U 9 k.toNat → U 15 (U 9 k.toNat).toNat = 1) ∧
  (∀ c j : Int, 0 ≤ c → c < U 11 0 → U 15 c.toNat = 1 → 0 ≤ j → j < U 31 c.toNat → U 9 (U 32 (2 * c + j).toNat).toNat = c) ∧
  (∀ c k : Int, 0 ≤ c → c < U 11 0 → U 15 c.toNat = 1 → 0 ≤ k → k < 6 → U 9 k.toNat = c → ∃ j : Int, 0 ≤ j ∧ j < U 31 c.toNat ∧ U 32 (2 * c + j).toNat = k) ∧
  (∀ c : Int, 0 ≤ c → c < U 11 0 → U 15 c.toNat = 1 → U 31 c.toNat = 2 → ¬ U 32 (2 * c + 0).toNat = U 32 (2 * c + 1).toNat) ∧
  (∀ b j : Int, 0 ≤ b → b < U 17 0 → U 18 b.toNat < 4 → 0 ≤ j → j < U 23 b.toNat → U 5 (U 24 (30 * b + j).toNat).toNat = b) ∧
  (∀ b i j : Int, 0 ≤ b → b < U 17 0 → U 18 b.toNat < 4 → 0 ≤ i → i < j → j < U 23 b.toNat → ¬ U 24 (30 * b + i).toNat = U 24 (30 * b + j).toNat) ∧
  (∀ w : Int, 0 ≤ w → w < U 2 0 → 0 ≤ U 5 w.toNat → U 18 (U 5 w.toNat).toNat < 4) ∧
  (∀ w : Int, 0 ≤ w → w < U 2 0 → 0 ≤ U 5 w.toNat → ∃ j : Int, 0 ≤ j ∧ j < U 23 (U 5 w.toNat).toNat ∧ U 24 (30 * U 5 w.toNat + j).toNat = w) ∧
  (∀ r k : Int, 0 ≤ r → r < U 25 0 → U 27 r.toNat = 0 → 0 ≤ k → k < U 28 r.toNat → 0 ≤ U 5 (U 29 (6 * r + k).toNat).toNat ∧ U 18 (U 5 (U 29 (6 * r + k).toNat).toNat).toNat = 3) ∧
  (∀ r r' k k' : Int, 0 ≤ r → r < U 25 0 → U 27 r.toNat = 0 → 0 ≤ r' → r' < U 25 0 → U 27 r'.toNat = 0 → 0 ≤ k → k < U 28 r.toNat → 0 ≤ k' → k' < U 28 r'.toNat → U 5 (U 29 (6 * r + k).toNat).toNat = U 5 (U 29 (6 * r' + k').toNat).toNat → r = r') ∧
  (∀ i : Nat, U 25 0 ≤ (i : Int) → U 27 i = 0) ∧
  (∀ c : Int, 0 ≤ c → c < U 11 0 → U 15 c.toNat = 1 → 0 ≤ U 16 c.toNat → U 18 (U 16 c.toNat).toNat = 0) ∧
  (∀ c c' : Int, 0 ≤ c → c < U 11 0 → U 15 c.toNat = 1 → 0 ≤ c' → c' < U 11 0 → U 15 c'.toNat = 1 → 0 ≤ U 16 c.toNat → U 16 c.toNat = U 16 c'.toNat → c = c') ∧
  (∀ c c' : Int, 0 ≤ c → c < U 11 0 → U 15 c.toNat = 1 → 0 ≤ c' → c' < U 11 0 → U 15 c'.toNat = 1 → U 13 c.toNat = U 13 c'.toNat → c = c') ∧
  (U 25 0 ≤ (cnt (U 18) (U 17 0).toNat : Int)) ∧
  (uRp U) ∧
  (∀ k, k = 6 ∨ k = 7 ∨ k = 25 ∨ k = 28 ∨ k = 29 → rp U (U 33 0).toNat k = U k)
section
variable {U V : gV}
theorem RR.e1 (h : RR U V) : U 1 = V 1 := h.1
theorem RR.e2 (h : RR U V) : U 2 = V 2 := h.2.1
theorem RR.e4 (h : RR U V) : U 4 = V 4 := h.2.2.1
theorem RR.e6 (h : RR U V) : U 6 = V 6 := h.2.2.2.1
theorem RR.e7 (h : RR U V) : U 7 = V 7 := h.2.2.2.2.1
theorem RR.e10 (h : RR U V) : U 10 = V 10 := h.2.2.2.2.2.1
theorem RR.e11 (h : RR U V) : U 11 = V 11 := h.2.2.2.2.2.2.1
theorem RR.e12 (h : RR U V) : U 12 = V 12 := h.2.2.2.2.2.2.2.1
theorem RR.e13 (h : RR U V) : U 13 = V 13 := h.2.2.2.2.2.2.2.2.1
theorem RR.e14 (h : RR U V) : U 14 = V 14 := h.2.2.2.2.2.2.2.2.2.1
theorem RR.e15 (h : RR U V) : U 15 = V 15 := h.2.2.2.2.2.2.2.2.2.2.1
theorem RR.e17 (h : RR U V) : U 17 = V 17 := h.2.2.2.2.2.2.2.2.2.2.2.1
theorem RR.e18 (h : RR U V) : U 18 = V 18 := h.2.2.2.2.2.2.2.2.2.2.2.2.1
theorem RR.e19 (h : RR U V) : U 19 = V 19 := h.2.2.2.2.2.2.2.2.2.2.2.2.2.1
theorem RR.e20 (h : RR U V) : U 20 = V 20 := h.2.2.2.2.2.2.2.2.2.2.2.2.2.2.1
theorem RR.e21 (h : RR U V) : U 21 = V 21 := h.2.2.2.2.2.2.2.2.2.2.2.2.2.2.2.1
theorem RR.e23 (h : RR U V) : U 23 = V 23 := h.2.2.2.2.2.2.2.2.2.2.2.2.2.2.2.2.1
theorem RR.e24 (h : RR U V) : U 24 = V 24 := h.2.2.2.2.2.2.2.2.2.2.2.2.2.2.2.2.2.1
theorem RR.e25 (h : RR U V) : U 25 = V 25 := h.2.2.2.2.2.2.2.2.2.2.2.2.2.2.2.2.2.2.1
theorem RR.e26 (h : RR U V) : U 26 = V 26 := h.2.2.2.2.2.2.2.2.2.2.2.2.2.2.2.2.2.2.2.1
theorem RR.e27 (h : RR U V) : U 27 = V 27 := h.2.2.2.2.2.2.2.2.2.2.2.2.2.2.2.2.2.2.2.2.1
theorem RR.e28 (h : RR U V) : U 28 = V 28 := h.2.2.2.2.2.2.2.2.2.2.2.2.2.2.2.2.2.2.2.2.2.1
theorem RR.e29 (h : RR U V) : U 29 = V 29 := h.2.2.2.2.2.2.2.2.2.2.2.2.2.2.2.2.2.2.2.2.2.2.1
theorem RR.s1 (h : RR U V) : 0 ≤ U 1 0 ∧ U 1 0 ≤ 10000 := h.2.2.2.2.2.2.2.2.2.2.2.2.2.2.2.2.2.2.2.2.2.2.2.1
theorem RR.s2 (h : RR U V) : 0 ≤ U 2 0 ∧ U 2 0 ≤ 30 := h.2.2.2.2.2.2.2.2.2.2.2.2.2.2.2.2.2.2.2.2.2.2.2.2.1
theorem RR.s11 (h : RR U V) : 0 ≤ U 11 0 ∧ U 11 0 ≤ 60 := h.2.2.2.2.2.2.2.2.2.2.2.2.2.2.2.2.2.2.2.2.2.2.2.2.2.1
theorem RR.s17 (h : RR U V) : 0 ≤ U 17 0 ∧ U 17 0 ≤ 40 := h.2.2.2.2.2.2.2.2.2.2.2.2.2.2.2.2.2.2.2.2.2.2.2.2.2.2.1
theorem RR.s25 (h : RR U V) : 0 ≤ U 25 0 ∧ U 25 0 ≤ 40 := h.2.2.2.2.2.2.2.2.2.2.2.2.2.2.2.2.2.2.2.2.2.2.2.2.2.2.2.1
theorem RR.s33 (h : RR U V) : 0 ≤ U 33 0 ∧ U 33 0 ≤ 64 := h.2.2.2.2.2.2.2.2.2.2.2.2.2.2.2.2.2.2.2.2.2.2.2.2.2.2.2.2.1
theorem RR.s41 (h : RR U V) : U 41 0 = U 2 0 := h.2.2.2.2.2.2.2.2.2.2.2.2.2.2.2.2.2.2.2.2.2.2.2.2.2.2.2.2.2.1
theorem RR.s42 (h : RR U V) : U 42 0 = U 17 0 := h.2.2.2.2.2.2.2.2.2.2.2.2.2.2.2.2.2.2.2.2.2.2.2.2.2.2.2.2.2.2.1
theorem RR.s43 (h : RR U V) : U 43 0 = U 11 0 := h.2.2.2.2.2.2.2.2.2.2.2.2.2.2.2.2.2.2.2.2.2.2.2.2.2.2.2.2.2.2.2.1
theorem RR.s45 (h : RR U V) : U 45 0 = U 25 0 := h.2.2.2.2.2.2.2.2.2.2.2.2.2.2.2.2.2.2.2.2.2.2.2.2.2.2.2.2.2.2.2.2.1
theorem RR.s46 (h : RR U V) : U 46 0 = U 33 0 := h.2.2.2.2.2.2.2.2.2.2.2.2.2.2.2.2.2.2.2.2.2.2.2.2.2.2.2.2.2.2.2.2.2.1
theorem RR.i3 (h : RR U V) : ∀ j : Int, 0 ≤ j → j < U 2 0 → -1 ≤ U 3 j.toNat ∧ U 3 j.toNat ≤ 14 := h.2.2.2.2.2.2.2.2.2.2.2.2.2.2.2.2.2.2.2.2.2.2.2.2.2.2.2.2.2.2.2.2.2.2.1
theorem RR.i4 (h : RR U V) : ∀ j : Int, 0 ≤ j → j < U 2 0 → -1 ≤ U 4 j.toNat ∧ U 4 j.toNat ≤ 3 := h.2.2.2.2.2.2.2.2.2.2.2.2.2.2.2.2.2.2.2.2.2.2.2.2.2.2.2.2.2.2.2.2.2.2.2.1
theorem RR.i5 (h : RR U V) : ∀ j : Int, 0 ≤ j → j < U 2 0 → -1 ≤ U 5 j.toNat ∧ U 5 j.toNat < U 17 0 := h.2.2.2.2.2.2.2.2.2.2.2.2.2.2.2.2.2.2.2.2.2.2.2.2.2.2.2.2.2.2.2.2.2.2.2.2.1
theorem RR.i6 (h : RR U V) : ∀ j : Int, 0 ≤ j → j < 15 → 0 ≤ U 6 j.toNat ∧ U 6 j.toNat ≤ 6 := h.2.2.2.2.2.2.2.2.2.2.2.2.2.2.2.2.2.2.2.2.2.2.2.2.2.2.2.2.2.2.2.2.2.2.2.2.2.1
theorem RR.i7 (h : RR U V) : ∀ a k : Int, 0 ≤ a → a < 15 → 0 ≤ k → k < U 6 a.toNat → 0 ≤ U 7 (6 * a + k).toNat ∧ U 7 (6 * a + k).toNat < U 2 0 := h.2.2.2.2.2.2.2.2.2.2.2.2.2.2.2.2.2.2.2.2.2.2.2.2.2.2.2.2.2.2.2.2.2.2.2.2.2.2.1
theorem RR.i8 (h : RR U V) : ∀ j : Int, 0 ≤ j → j < 16 → U 8 j.toNat = 0 ∨ U 8 j.toNat = 1 := h.2.2.2.2.2.2.2.2.2.2.2.2.2.2.2.2.2.2.2.2.2.2.2.2.2.2.2.2.2.2.2.2.2.2.2.2.2.2.2.1
theorem RR.i9 (h : RR U V) : ∀ j : Int, 0 ≤ j → j < 6 → -1 ≤ U 9 j.toNat ∧ U 9 j.toNat < U 11 0 := h.2.2.2.2.2.2.2.2.2.2.2.2.2.2.2.2.2.2.2.2.2.2.2.2.2.2.2.2.2.2.2.2.2.2.2.2.2.2.2.2.1
theorem RR.i30 (h : RR U V) : ∀ j : Int, 0 ≤ j → j < 6 → U 30 j.toNat = 0 ∨ U 30 j.toNat = 1 := h.2.2.2.2.2.2.2.2.2.2.2.2.2.2.2.2.2.2.2.2.2.2.2.2.2.2.2.2.2.2.2.2.2.2.2.2.2.2.2.2.2.1
theorem RR.i10 (h : RR U V) : ∀ j : Int, 0 ≤ j → j < 3 → 0 ≤ U 10 j.toNat ∧ U 10 j.toNat ≤ 3 := h.2.2.2.2.2.2.2.2.2.2.2.2.2.2.2.2.2.2.2.2.2.2.2.2.2.2.2.2.2.2.2.2.2.2.2.2.2.2.2.2.2.2.1
theorem RR.i13 (h : RR U V) : ∀ j : Int, 0 ≤ j → j < U 11 0 → 0 ≤ U 13 j.toNat ∧ U 13 j.toNat ≤ 5 := h.2.2.2.2.2.2.2.2.2.2.2.2.2.2.2.2.2.2.2.2.2.2.2.2.2.2.2.2.2.2.2.2.2.2.2.2.2.2.2.2.2.2.2.1
theorem RR.i14 (h : RR U V) : ∀ j : Int, 0 ≤ j → j < U 11 0 → 0 ≤ U 14 j.toNat ∧ U 14 j.toNat ≤ 2 := h.2.2.2.2.2.2.2.2.2.2.2.2.2.2.2.2.2.2.2.2.2.2.2.2.2.2.2.2.2.2.2.2.2.2.2.2.2.2.2.2.2.2.2.2.1
theorem RR.i15 (h : RR U V) : ∀ j : Int, 0 ≤ j → j < U 11 0 → U 15 j.toNat = 0 ∨ U 15 j.toNat = 1 := h.2.2.2.2.2.2.2.2.2.2.2.2.2.2.2.2.2.2.2.2.2.2.2.2.2.2.2.2.2.2.2.2.2.2.2.2.2.2.2.2.2.2.2.2.2.1
theorem RR.i16 (h : RR U V) : ∀ j : Int, 0 ≤ j → j < U 11 0 → -1 ≤ U 16 j.toNat ∧ U 16 j.toNat < U 17 0 := h.2.2.2.2.2.2.2.2.2.2.2.2.2.2.2.2.2.2.2.2.2.2.2.2.2.2.2.2.2.2.2.2.2.2.2.2.2.2.2.2.2.2.2.2.2.2.1
theorem RR.i31 (h : RR U V) : ∀ j : Int, 0 ≤ j → j < U 11 0 → 0 ≤ U 31 j.toNat ∧ U 31 j.toNat ≤ 2 := h.2.2.2.2.2.2.2.2.2.2.2.2.2.2.2.2.2.2.2.2.2.2.2.2.2.2.2.2.2.2.2.2.2.2.2.2.2.2.2.2.2.2.2.2.2.2.2.1
theorem RR.i32 (h : RR U V) : ∀ a k : Int, 0 ≤ a → a < U 11 0 → 0 ≤ k → k < U 31 a.toNat → 0 ≤ U 32 (2 * a + k).toNat ∧ U 32 (2 * a + k).toNat < 6 := h.2.2.2.2.2.2.2.2.2.2.2.2.2.2.2.2.2.2.2.2.2.2.2.2.2.2.2.2.2.2.2.2.2.2.2.2.2.2.2.2.2.2.2.2.2.2.2.2.1
theorem RR.i18 (h : RR U V) : ∀ j : Int, 0 ≤ j → j < U 17 0 → 0 ≤ U 18 j.toNat ∧ U 18 j.toNat ≤ 5 := h.2.2.2.2.2.2.2.2.2.2.2.2.2.2.2.2.2.2.2.2.2.2.2.2.2.2.2.2.2.2.2.2.2.2.2.2.2.2.2.2.2.2.2.2.2.2.2.2.2.1
theorem RR.i19 (h : RR U V) : ∀ j : Int, 0 ≤ j → j < U 17 0 → 0 ≤ U 19 j.toNat ∧ U 19 j.toNat ≤ 3 := h.2.2.2.2.2.2.2.2.2.2.2.2.2.2.2.2.2.2.2.2.2.2.2.2.2.2.2.2.2.2.2.2.2.2.2.2.2.2.2.2.2.2.2.2.2.2.2.2.2.2.1
theorem RR.i20 (h : RR U V) : ∀ j : Int, 0 ≤ j → j < U 17 0 → 0 ≤ U 20 j.toNat ∧ U 20 j.toNat ≤ 5 := h.2.2.2.2.2.2.2.2.2.2.2.2.2.2.2.2.2.2.2.2.2.2.2.2.2.2.2.2.2.2.2.2.2.2.2.2.2.2.2.2.2.2.2.2.2.2.2.2.2.2.2.1
theorem RR.i21 (h : RR U V) : ∀ j : Int, 0 ≤ j → j < U 17 0 → 0 ≤ U 21 j.toNat ∧ U 21 j.toNat ≤ 2 := h.2.2.2.2.2.2.2.2.2.2.2.2.2.2.2.2.2.2.2.2.2.2.2.2.2.2.2.2.2.2.2.2.2.2.2.2.2.2.2.2.2.2.2.2.2.2.2.2.2.2.2.2.1
theorem RR.i22 (h : RR U V) : ∀ j : Int, 0 ≤ j → j < U 17 0 → 0 ≤ U 22 j.toNat ∧ U 22 j.toNat ≤ 10010 := h.2.2.2.2.2.2.2.2.2.2.2.2.2.2.2.2.2.2.2.2.2.2.2.2.2.2.2.2.2.2.2.2.2.2.2.2.2.2.2.2.2.2.2.2.2.2.2.2.2.2.2.2.2.1
theorem RR.i23 (h : RR U V) : ∀ j : Int, 0 ≤ j → j < U 17 0 → 0 ≤ U 23 j.toNat ∧ U 23 j.toNat ≤ 30 := h.2.2.2.2.2.2.2.2.2.2.2.2.2.2.2.2.2.2.2.2.2.2.2.2.2.2.2.2.2.2.2.2.2.2.2.2.2.2.2.2.2.2.2.2.2.2.2.2.2.2.2.2.2.2.1
theorem RR.i24 (h : RR U V) : ∀ a k : Int, 0 ≤ a → a < U 17 0 → 0 ≤ k → k < U 23 a.toNat → 0 ≤ U 24 (30 * a + k).toNat ∧ U 24 (30 * a + k).toNat < U 2 0 := h.2.2.2.2.2.2.2.2.2.2.2.2.2.2.2.2.2.2.2.2.2.2.2.2.2.2.2.2.2.2.2.2.2.2.2.2.2.2.2.2.2.2.2.2.2.2.2.2.2.2.2.2.2.2.2.1
theorem RR.i26 (h : RR U V) : ∀ j : Int, 0 ≤ j → j < U 25 0 → 0 ≤ U 26 j.toNat ∧ U 26 j.toNat ≤ 2 := h.2.2.2.2.2.2.2.2.2.2.2.2.2.2.2.2.2.2.2.2.2.2.2.2.2.2.2.2.2.2.2.2.2.2.2.2.2.2.2.2.2.2.2.2.2.2.2.2.2.2.2.2.2.2.2.2.1
theorem RR.i27 (h : RR U V) : ∀ j : Int, 0 ≤ j → j < U 25 0 → U 27 j.toNat = 0 ∨ U 27 j.toNat = 1 := h.2.2.2.2.2.2.2.2.2.2.2.2.2.2.2.2.2.2.2.2.2.2.2.2.2.2.2.2.2.2.2.2.2.2.2.2.2.2.2.2.2.2.2.2.2.2.2.2.2.2.2.2.2.2.2.2.2.1
theorem RR.i28 (h : RR U V) : ∀ j : Int, 0 ≤ j → j < U 25 0 → 0 ≤ U 28 j.toNat ∧ U 28 j.toNat ≤ 6 := h.2.2.2.2.2.2.2.2.2.2.2.2.2.2.2.2.2.2.2.2.2.2.2.2.2.2.2.2.2.2.2.2.2.2.2.2.2.2.2.2.2.2.2.2.2.2.2.2.2.2.2.2.2.2.2.2.2.2.1
theorem RR.i29 (h : RR U V) : ∀ a k : Int, 0 ≤ a → a < U 25 0 → 0 ≤ k → k < U 28 a.toNat → 0 ≤ U 29 (6 * a + k).toNat ∧ U 29 (6 * a + k).toNat < U 2 0 := h.2.2.2.2.2.2.2.2.2.2.2.2.2.2.2.2.2.2.2.2.2.2.2.2.2.2.2.2.2.2.2.2.2.2.2.2.2.2.2.2.2.2.2.2.2.2.2.2.2.2.2.2.2.2.2.2.2.2.2.1
theorem RR.i34 (h : RR U V) : ∀ j : Int, 0 ≤ j → j < U 33 0 → 0 ≤ U 34 j.toNat ∧ U 34 j.toNat ≤ 3 := h.2.2.2.2.2.2.2.2.2.2.2.2.2.2.2.2.2.2.2.2.2.2.2.2.2.2.2.2.2.2.2.2.2.2.2.2.2.2.2.2.2.2.2.2.2.2.2.2.2.2.2.2.2.2.2.2.2.2.2.2.1
theorem RR.r3 (h : RR U V) : ∀ i : Nat, V 3 i = if U 3 i = -1 then -1 else 10 * (U 3 i / 5) + U 3 i % 5 := h.2.2.2.2.2.2.2.2.2.2.2.2.2.2.2.2.2.2.2.2.2.2.2.2.2.2.2.2.2.2.2.2.2.2.2.2.2.2.2.2.2.2.2.2.2.2.2.2.2.2.2.2.2.2.2.2.2.2.2.2.2.1
theorem RR.r5 (h : RR U V) : ∀ w : Int, 0 ≤ w → w < U 2 0 → U 5 w.toNat = if V 5 w.toNat < 0 ∨ 4 ≤ U 18 (V 5 w.toNat).toNat then -1 else V 5 w.toNat := h.2.2.2.2.2.2.2.2.2.2.2.2.2.2.2.2.2.2.2.2.2.2.2.2.2.2.2.2.2.2.2.2.2.2.2.2.2.2.2.2.2.2.2.2.2.2.2.2.2.2.2.2.2.2.2.2.2.2.2.2.2.2.1
theorem RR.v5 (h : RR U V) : ∀ w : Int, 0 ≤ w → w < U 2 0 → -1 ≤ V 5 w.toNat ∧ V 5 w.toNat < U 17 0 := h.2.2.2.2.2.2.2.2.2.2.2.2.2.2.2.2.2.2.2.2.2.2.2.2.2.2.2.2.2.2.2.2.2.2.2.2.2.2.2.2.2.2.2.2.2.2.2.2.2.2.2.2.2.2.2.2.2.2.2.2.2.2.2.1
theorem RR.r8 (h : RR U V) : ∀ f g : Int, 0 ≤ f → f < 4 → 0 ≤ g → g < 4 → fBit (V 8 f.toNat) g = U 8 (4 * f + g).toNat := h.2.2.2.2.2.2.2.2.2.2.2.2.2.2.2.2.2.2.2.2.2.2.2.2.2.2.2.2.2.2.2.2.2.2.2.2.2.2.2.2.2.2.2.2.2.2.2.2.2.2.2.2.2.2.2.2.2.2.2.2.2.2.2.2.1
theorem RR.v8 (h : RR U V) : ∀ f : Int, 0 ≤ f → f < 4 → 0 ≤ V 8 f.toNat ∧ V 8 f.toNat ≤ 15 := h.2.2.2.2.2.2.2.2.2.2.2.2.2.2.2.2.2.2.2.2.2.2.2.2.2.2.2.2.2.2.2.2.2.2.2.2.2.2.2.2.2.2.2.2.2.2.2.2.2.2.2.2.2.2.2.2.2.2.2.2.2.2.2.2.2.1
theorem RR.r9 (h : RR U V) : ∀ k : Int, 0 ≤ k → k < 6 → V 9 k.toNat = if U 30 k.toNat = 1 then -2 else U 9 k.toNat := h.2.2.2.2.2.2.2.2.2.2.2.2.2.2.2.2.2.2.2.2.2.2.2.2.2.2.2.2.2.2.2.2.2.2.2.2.2.2.2.2.2.2.2.2.2.2.2.2.2.2.2.2.2.2.2.2.2.2.2.2.2.2.2.2.2.2.1
theorem RR.c9 (h : RR U V) : ∀ k : Int, 0 ≤ k → k < 6 → U 30 k.toNat = 1 → U 9 k.toNat = -1 := h.2.2.2.2.2.2.2.2.2.2.2.2.2.2.2.2.2.2.2.2.2.2.2.2.2.2.2.2.2.2.2.2.2.2.2.2.2.2.2.2.2.2.2.2.2.2.2.2.2.2.2.2.2.2.2.2.2.2.2.2.2.2.2.2.2.2.2.1
theorem RR.r16 (h : RR U V) : ∀ c : Int, 0 ≤ c → c < U 11 0 → U 15 c.toNat = 1 → V 16 c.toNat = U 16 c.toNat := h.2.2.2.2.2.2.2.2.2.2.2.2.2.2.2.2.2.2.2.2.2.2.2.2.2.2.2.2.2.2.2.2.2.2.2.2.2.2.2.2.2.2.2.2.2.2.2.2.2.2.2.2.2.2.2.2.2.2.2.2.2.2.2.2.2.2.2.2.1
theorem RR.v16 (h : RR U V) : ∀ c : Int, 0 ≤ c → c < U 11 0 → -1 ≤ V 16 c.toNat ∧ V 16 c.toNat < U 17 0 := h.2.2.2.2.2.2.2.2.2.2.2.2.2.2.2.2.2.2.2.2.2.2.2.2.2.2.2.2.2.2.2.2.2.2.2.2.2.2.2.2.2.2.2.2.2.2.2.2.2.2.2.2.2.2.2.2.2.2.2.2.2.2.2.2.2.2.2.2.2.1
theorem RR.r22 (h : RR U V) : ∀ b : Int, 0 ≤ b → b < U 17 0 → U 18 b.toNat = 1 → V 22 b.toNat = U 22 b.toNat := h.2.2.2.2.2.2.2.2.2.2.2.2.2.2.2.2.2.2.2.2.2.2.2.2.2.2.2.2.2.2.2.2.2.2.2.2.2.2.2.2.2.2.2.2.2.2.2.2.2.2.2.2.2.2.2.2.2.2.2.2.2.2.2.2.2.2.2.2.2.2.1
theorem RR.v22 (h : RR U V) : ∀ i : Nat, 0 ≤ V 22 i ∧ V 22 i ≤ 10010 := h.2.2.2.2.2.2.2.2.2.2.2.2.2.2.2.2.2.2.2.2.2.2.2.2.2.2.2.2.2.2.2.2.2.2.2.2.2.2.2.2.2.2.2.2.2.2.2.2.2.2.2.2.2.2.2.2.2.2.2.2.2.2.2.2.2.2.2.2.2.2.2.1
theorem RR.o9 (h : RR U V) : ∀ k : Int, 0 ≤ k → k < 6 → 0 ≤ U 9 k.toNat → U 15 (U 9 k.toNat).toNat = 1 := h.2.2.2.2.2.2.2.2.2.2.2.2.2.2.2.2.2.2.2.2.2.2.2.2.2.2.2.2.2.2.2.2.2.2.2.2.2.2.2.2.2.2.2.2.2.2.2.2.2.2.2.2.2.2.2.2.2.2.2.2.2.2.2.2.2.2.2.2.2.2.2.2.1
theorem RR.oA (h : RR U V) : ∀ c j : Int, 0 ≤ c → c < U 11 0 → U 15 c.toNat = 1 → 0 ≤ j → j < U 31 c.toNat → U 9 (U 32 (2 * c + j).toNat).toNat = c := h.2.2.2.2.2.2.2.2.2.2.2.2.2.2.2.2.2.2.2.2.2.2.2.2.2.2.2.2.2.2.2.2.2.2.2.2.2.2.2.2.2.2.2.2.2.2.2.2.2.2.2.2.2.2.2.2.2.2.2.2.2.2.2.2.2.2.2.2.2.2.2.2.2.1
theorem RR.oC (h : RR U V) : ∀ c k : Int, 0 ≤ c → c < U 11 0 → U 15 c.toNat = 1 → 0 ≤ k → k < 6 → U 9 k.toNat = c → ∃ j : Int, 0 ≤ j ∧ j < U 31 c.toNat ∧ U 32 (2 * c + j).toNat = k := h.2.2.2.2.2.2.2.2.2.2.2.2.2.2.2.2.2.2.2.2.2.2.2.2.2.2.2.2.2.2.2.2.2.2.2.2.2.2.2.2.2.2.2.2.2.2.2.2.2.2.2.2.2.2.2.2.2.2.2.2.2.2.2.2.2.2.2.2.2.2.2.2.2.2.1
theorem RR.oD (h : RR U V) : ∀ c : Int, 0 ≤ c → c < U 11 0 → U 15 c.toNat = 1 → U 31 c.toNat = 2 → ¬ U 32 (2 * c + 0).toNat = U 32 (2 * c + 1).toNat := h.2.2.2.2.2.2.2.2.2.2.2.2.2.2.2.2.2.2.2.2.2.2.2.2.2.2.2.2.2.2.2.2.2.2.2.2.2.2.2.2.2.2.2.2.2.2.2.2.2.2.2.2.2.2.2.2.2.2.2.2.2.2.2.2.2.2.2.2.2.2.2.2.2.2.2.1
theorem RR.bA (h : RR U V) : ∀ b j : Int, 0 ≤ b → b < U 17 0 → U 18 b.toNat < 4 → 0 ≤ j → j < U 23 b.toNat → U 5 (U 24 (30 * b + j).toNat).toNat = b := h.2.2.2.2.2.2.2.2.2.2.2.2.2.2.2.2.2.2.2.2.2.2.2.2.2.2.2.2.2.2.2.2.2.2.2.2.2.2.2.2.2.2.2.2.2.2.2.2.2.2.2.2.2.2.2.2.2.2.2.2.2.2.2.2.2.2.2.2.2.2.2.2.2.2.2.2.1
theorem RR.bD (h : RR U V) : ∀ b i j : Int, 0 ≤ b → b < U 17 0 → U 18 b.toNat < 4 → 0 ≤ i → i < j → j < U 23 b.toNat → ¬ U 24 (30 * b + i).toNat = U 24 (30 * b + j).toNat := h.2.2.2.2.2.2.2.2.2.2.2.2.2.2.2.2.2.2.2.2.2.2.2.2.2.2.2.2.2.2.2.2.2.2.2.2.2.2.2.2.2.2.2.2.2.2.2.2.2.2.2.2.2.2.2.2.2.2.2.2.2.2.2.2.2.2.2.2.2.2.2.2.2.2.2.2.2.1
theorem RR.bB (h : RR U V) : ∀ w : Int, 0 ≤ w → w < U 2 0 → 0 ≤ U 5 w.toNat → U 18 (U 5 w.toNat).toNat < 4 := h.2.2.2.2.2.2.2.2.2.2.2.2.2.2.2.2.2.2.2.2.2.2.2.2.2.2.2.2.2.2.2.2.2.2.2.2.2.2.2.2.2.2.2.2.2.2.2.2.2.2.2.2.2.2.2.2.2.2.2.2.2.2.2.2.2.2.2.2.2.2.2.2.2.2.2.2.2.2.1
theorem RR.bC (h : RR U V) : ∀ w : Int, 0 ≤ w → w < U 2 0 → 0 ≤ U 5 w.toNat → ∃ j : Int, 0 ≤ j ∧ j < U 23 (U 5 w.toNat).toNat ∧ U 24 (30 * U 5 w.toNat + j).toNat = w := h.2.2.2.2.2.2.2.2.2.2.2.2.2.2.2.2.2.2.2.2.2.2.2.2.2.2.2.2.2.2.2.2.2.2.2.2.2.2.2.2.2.2.2.2.2.2.2.2.2.2.2.2.2.2.2.2.2.2.2.2.2.2.2.2.2.2.2.2.2.2.2.2.2.2.2.2.2.2.2.1
theorem RR.tA (h : RR U V) : ∀ r k : Int, 0 ≤ r → r < U 25 0 → U 27 r.toNat = 0 → 0 ≤ k → k < U 28 r.toNat → 0 ≤ U 5 (U 29 (6 * r + k).toNat).toNat ∧ U 18 (U 5 (U 29 (6 * r + k).toNat).toNat).toNat = 3 := h.2.2.2.2.2.2.2.2.2.2.2.2.2.2.2.2.2.2.2.2.2.2.2.2.2.2.2.2.2.2.2.2.2.2.2.2.2.2.2.2.2.2.2.2.2.2.2.2.2.2.2.2.2.2.2.2.2.2.2.2.2.2.2.2.2.2.2.2.2.2.2.2.2.2.2.2.2.2.2.2.1
theorem RR.tD (h : RR U V) : ∀ r r' k k' : Int, 0 ≤ r → r < U 25 0 → U 27 r.toNat = 0 → 0 ≤ r' → r' < U 25 0 → U 27 r'.toNat = 0 → 0 ≤ k → k < U 28 r.toNat → 0 ≤ k' → k' < U 28 r'.toNat → U 5 (U 29 (6 * r + k).toNat).toNat = U 5 (U 29 (6 * r' + k').toNat).toNat → r = r' := h.2.2.2.2.2.2.2.2.2.2.2.2.2.2.2.2.2.2.2.2.2.2.2.2.2.2.2.2.2.2.2.2.2.2.2.2.2.2.2.2.2.2.2.2.2.2.2.2.2.2.2.2.2.2.2.2.2.2.2.2.2.2.2.2.2.2.2.2.2.2.2.2.2.2.2.2.2.2.2.2.2.1
theorem RR.t27 (h : RR U V) : ∀ i : Nat, U 25 0 ≤ (i : Int) → U 27 i = 0 := h.2.2.2.2.2.2.2.2.2.2.2.2.2.2.2.2.2.2.2.2.2.2.2.2.2.2.2.2.2.2.2.2.2.2.2.2.2.2.2.2.2.2.2.2.2.2.2.2.2.2.2.2.2.2.2.2.2.2.2.2.2.2.2.2.2.2.2.2.2.2.2.2.2.2.2.2.2.2.2.2.2.2.1
theorem RR.cA (h : RR U V) : ∀ c : Int, 0 ≤ c → c < U 11 0 → U 15 c.toNat = 1 → 0 ≤ U 16 c.toNat → U 18 (U 16 c.toNat).toNat = 0 := h.2.2.2.2.2.2.2.2.2.2.2.2.2.2.2.2.2.2.2.2.2.2.2.2.2.2.2.2.2.2.2.2.2.2.2.2.2.2.2.2.2.2.2.2.2.2.2.2.2.2.2.2.2.2.2.2.2.2.2.2.2.2.2.2.2.2.2.2.2.2.2.2.2.2.2.2.2.2.2.2.2.2.2.1
theorem RR.cD (h : RR U V) : ∀ c c' : Int, 0 ≤ c → c < U 11 0 → U 15 c.toNat = 1 → 0 ≤ c' → c' < U 11 0 → U 15 c'.toNat = 1 → 0 ≤ U 16 c.toNat → U 16 c.toNat = U 16 c'.toNat → c = c' := h.2.2.2.2.2.2.2.2.2.2.2.2.2.2.2.2.2.2.2.2.2.2.2.2.2.2.2.2.2.2.2.2.2.2.2.2.2.2.2.2.2.2.2.2.2.2.2.2.2.2.2.2.2.2.2.2.2.2.2.2.2.2.2.2.2.2.2.2.2.2.2.2.2.2.2.2.2.2.2.2.2.2.2.2.1
theorem RR.u1 (h : RR U V) : ∀ c c' : Int, 0 ≤ c → c < U 11 0 → U 15 c.toNat = 1 → 0 ≤ c' → c' < U 11 0 → U 15 c'.toNat = 1 → U 13 c.toNat = U 13 c'.toNat → c = c' := h.2.2.2.2.2.2.2.2.2.2.2.2.2.2.2.2.2.2.2.2.2.2.2.2.2.2.2.2.2.2.2.2.2.2.2.2.2.2.2.2.2.2.2.2.2.2.2.2.2.2.2.2.2.2.2.2.2.2.2.2.2.2.2.2.2.2.2.2.2.2.2.2.2.2.2.2.2.2.2.2.2.2.2.2.2.1
theorem RR.nT (h : RR U V) : U 25 0 ≤ (cnt (U 18) (U 17 0).toNat : Int) := h.2.2.2.2.2.2.2.2.2.2.2.2.2.2.2.2.2.2.2.2.2.2.2.2.2.2.2.2.2.2.2.2.2.2.2.2.2.2.2.2.2.2.2.2.2.2.2.2.2.2.2.2.2.2.2.2.2.2.2.2.2.2.2.2.2.2.2.2.2.2.2.2.2.2.2.2.2.2.2.2.2.2.2.2.2.2.1
theorem RR.rR (h : RR U V) : uRp U := h.2.2.2.2.2.2.2.2.2.2.2.2.2.2.2.2.2.2.2.2.2.2.2.2.2.2.2.2.2.2.2.2.2.2.2.2.2.2.2.2.2.2.2.2.2.2.2.2.2.2.2.2.2.2.2.2.2.2.2.2.2.2.2.2.2.2.2.2.2.2.2.2.2.2.2.2.2.2.2.2.2.2.2.2.2.2.2.1
theorem RR.rA (h : RR U V) : ∀ k, k = 6 ∨ k = 7 ∨ k = 25 ∨ k = 28 ∨ k = 29 → rp U (U 33 0).toNat k = U k := h.2.2.2.2.2.2.2.2.2.2.2.2.2.2.2.2.2.2.2.2.2.2.2.2.2.2.2.2.2.2.2.2.2.2.2.2.2.2.2.2.2.2.2.2.2.2.2.2.2.2.2.2.2.2.2.2.2.2.2.2.2.2.2.2.2.2.2.2.2.2.2.2.2.2.2.2.2.2.2.2.2.2.2.2.2.2.2.2
theorem RR.mk (e1 : U 1 = V 1) (e2 : U 2 = V 2) (e4 : U 4 = V 4) (e6 : U 6 = V 6) (e7 : U 7 = V 7) (e10 : U 10 = V 10) (e11 : U 11 = V 11) (e12 : U 12 = V 12) (e13 : U 13 = V 13) (e14 : U 14 = V 14) (e15 : U 15 = V 15) (e17 : U 17 = V 17) (e18 : U 18 = V 18) (e19 : U 19 = V 19) (e20 : U 20 = V 20) (e21 : U 21 = V 21) (e23 : U 23 = V 23) (e24 : U 24 = V 24) (e25 : U 25 = V 25) (e26 : U 26 = V 26) (e27 : U 27 = V 27) (e28 : U 28 = V 28) (e29 : U 29 = V 29) (s1 : 0 ≤ U 1 0 ∧ U 1 0 ≤ 10000) (s2 : 0 ≤ U 2 0 ∧ U 2 0 ≤ 30) (s11 : 0 ≤ U 11 0 ∧ U 11 0 ≤ 60) (s17 : 0 ≤ U 17 0 ∧ U 17 0 ≤ 40) (s25 : 0 ≤ U 25 0 ∧ U 25 0 ≤ 40) (s33 : 0 ≤ U 33 0 ∧ U 33 0 ≤ 64) (s41 : U 41 0 = U 2 0) (s42 : U 42 0 = U 17 0) (s43 : U 43 0 = U 11 0) (s45 : U 45 0 = U 25 0) (s46 : U 46 0 = U 33 0) (i3 : ∀ j : Int, 0 ≤ j → j < U 2 0 → -1 ≤ U 3 j.toNat ∧ U 3 j.toNat ≤ 14) (i4 : ∀ j : Int, 0 ≤ j → j < U 2 0 → -1 ≤ U 4 j.toNat ∧ U 4 j.toNat ≤ 3) (i5 : ∀ j : Int, 0 ≤ j → j < U 2 0 → -1 ≤ U 5 j.toNat ∧ U 5 j.toNat < U 17 0) (i6 : ∀ j : Int, 0 ≤ j → j < 15 → 0 ≤ U 6 j.toNat ∧ U 6 j.toNat ≤ 6) (i7 : ∀ a k : Int, 0 ≤ a → a < 15 → 0 ≤ k → k < U 6 a.toNat → 0 ≤ U 7 (6 * a + k).toNat ∧ U 7 (6 * a + k).toNat < U 2 0) (i8 : ∀ j : Int, 0 ≤ j → j < 16 → U 8 j.toNat = 0 ∨ U 8 j.toNat = 1) (i9 : ∀ j : Int, 0 ≤ j → j < 6 → -1 ≤ U 9 j.toNat ∧ U 9 j.toNat < U 11 0) (i30 : ∀ j : Int, 0 ≤ j → j < 6 → U 30 j.toNat = 0 ∨ U 30 j.toNat = 1) (i10 : ∀ j : Int, 0 ≤ j → j < 3 → 0 ≤ U 10 j.toNat ∧ U 10 j.toNat ≤ 3) (i13 : ∀ j : Int, 0 ≤ j → j < U 11 0 → 0 ≤ U 13 j.toNat ∧ U 13 j.toNat ≤ 5) (i14 : ∀ j : Int, 0 ≤ j → j < U 11 0 → 0 ≤ U 14 j.toNat ∧ U 14 j.toNat ≤ 2) (i15 : ∀ j : Int, 0 ≤ j → j < U 11 0 → U 15 j.toNat = 0 ∨ U 15 j.toNat = 1) (i16 : ∀ j : Int, 0 ≤ j → j < U 11 0 → -1 ≤ U 16 j.toNat ∧ U 16 j.toNat < U 17 0) (i31 : ∀ j : Int, 0 ≤ j → j < U 11 0 → 0 ≤ U 31 j.toNat ∧ U 31 j.toNat ≤ 2) (i32 : ∀ a k : Int, 0 ≤ a → a < U 11 0 → 0 ≤ k → k < U 31 a.toNat → 0 ≤ U 32 (2 * a + k).toNat ∧ U 32 (2 * a + k).toNat < 6) (i18 : ∀ j : Int, 0 ≤ j → j < U 17 0 → 0 ≤ U 18 j.toNat ∧ U 18 j.toNat ≤ 5) (i19 : ∀ j : Int, 0 ≤ j → j < U 17 0 → 0 ≤ U 19 j.toNat ∧ U 19 j.toNat ≤ 3) (i20 : ∀ j : Int, 0 ≤ j → j < U 17 0 → 0 ≤ U 20 j.toNat ∧ U 20 j.toNat ≤ 5) (i21 : ∀ j : Int, 0 ≤ j → j < U 17 0 → 0 ≤ U 21 j.toNat ∧ U 21 j.toNat ≤ 2) (i22 : ∀ j : Int, 0 ≤ j → j < U 17 0 → 0 ≤ U 22 j.toNat ∧ U 22 j.toNat ≤ 10010) (i23 : ∀ j : Int, 0 ≤ j → j < U 17 0 → 0 ≤ U 23 j.toNat ∧ U 23 j.toNat ≤ 30) (i24 : ∀ a k : Int, 0 ≤ a → a < U 17 0 → 0 ≤ k → k < U 23 a.toNat → 0 ≤ U 24 (30 * a + k).toNat ∧ U 24 (30 * a + k).toNat < U 2 0) (i26 : ∀ j : Int, 0 ≤ j → j < U 25 0 → 0 ≤ U 26 j.toNat ∧ U 26 j.toNat ≤ 2) (i27 : ∀ j : Int, 0 ≤ j → j < U 25 0 → U 27 j.toNat = 0 ∨ U 27 j.toNat = 1) (i28 : ∀ j : Int, 0 ≤ j → j < U 25 0 → 0 ≤ U 28 j.toNat ∧ U 28 j.toNat ≤ 6) (i29 : ∀ a k : Int, 0 ≤ a → a < U 25 0 → 0 ≤ k → k < U 28 a.toNat → 0 ≤ U 29 (6 * a + k).toNat ∧ U 29 (6 * a + k).toNat < U 2 0) (i34 : ∀ j : Int, 0 ≤ j → j < U 33 0 → 0 ≤ U 34 j.toNat ∧ U 34 j.toNat ≤ 3) (r3 : ∀ i : Nat, V 3 i = if U 3 i = -1 then -1 else 10 * (U 3 i / 5) + U 3 i % 5) (r5 : ∀ w : Int, 0 ≤ w → w < U 2 0 → U 5 w.toNat = if V 5 w.toNat < 0 ∨ 4 ≤ U 18 (V 5 w.toNat).toNat then -1 else V 5 w.toNat) (v5 : ∀ w : Int, 0 ≤ w → w < U 2 0 → -1 ≤ V 5 w.toNat ∧ V 5 w.toNat < U 17 0) (r8 : ∀ f g : Int, 0 ≤ f → f < 4 → 0 ≤ g → g < 4 → fBit (V 8 f.toNat) g = U 8 (4 * f + g).toNat) (v8 : ∀ f : Int, 0 ≤ f → f < 4 → 0 ≤ V 8 f.toNat ∧ V 8 f.toNat ≤ 15) (r9 : ∀ k : Int, 0 ≤ k → k < 6 → V 9 k.toNat = if U 30 k.toNat = 1 then -2 else U 9 k.toNat) (c9 : ∀ k : Int, 0 ≤ k → k < 6 → U 30 k.toNat = 1 → U 9 k.toNat = -1) (r16 : ∀ c : Int, 0 ≤ c → c < U 11 0 → U 15 c.toNat = 1 → V 16 c.toNat = U 16 c.toNat) (v16 : ∀ c : Int, 0 ≤ c → c < U 11 0 → -1 ≤ V 16 c.toNat ∧ V 16 c.toNat < U 17 0) (r22 : ∀ b : Int, 0 ≤ b → b < U 17 0 → U 18 b.toNat = 1 → V 22 b.toNat = U 22 b.toNat) (v22 : ∀ i : Nat, 0 ≤ V 22 i ∧ V 22 i ≤ 10010) (o9 : ∀ k : Int, 0 ≤ k → k < 6 → 0 ≤ U 9 k.toNat → U 15 (U 9 k.toNat).toNat = 1) (oA : ∀ c j : Int, 0 ≤ c → c < U 11 0 → U 15 c.toNat = 1 → 0 ≤ j → j < U 31 c.toNat → U 9 (U 32 (2 * c + j).toNat).toNat = c) (oC : ∀ c k : Int, 0 ≤ c → c < U 11 0 → U 15 c.toNat = 1 → 0 ≤ k → k < 6 → U 9 k.toNat = c → ∃ j : Int, 0 ≤ j ∧ j < U 31 c.toNat ∧ U 32 (2 * c + j).toNat = k) (oD : ∀ c : Int, 0 ≤ c → c < U 11 0 → U 15 c.toNat = 1 → U 31 c.toNat = 2 → ¬ U 32 (2 * c + 0).toNat = U 32 (2 * c + 1).toNat) (bA : ∀ b j : Int, 0 ≤ b → b < U 17 0 → U 18 b.toNat < 4 → 0 ≤ j → j < U 23 b.toNat → U 5 (U 24 (30 * b + j).toNat).toNat = b) (bD : ∀ b i j : Int, 0 ≤ b → b < U 17 0 → U 18 b.toNat < 4 → 0 ≤ i → i < j → j < U 23 b.toNat → ¬ U 24 (30 * b + i).toNat = U 24 (30 * b + j).toNat) (bB : ∀ w : Int, 0 ≤ w → w < U 2 0 → 0 ≤ U 5 w.toNat → U 18 (U 5 w.toNat).toNat < 4) (bC : ∀ w : Int, 0 ≤ w → w < U 2 0 → 0 ≤ U 5 w.toNat → ∃ j : Int, 0 ≤ j ∧ j < U 23 (U 5 w.toNat).toNat ∧ U 24 (30 * U 5 w.toNat + j).toNat = w) (tA : ∀ r k : Int, 0 ≤ r → r < U 25 0 → U 27 r.toNat = 0 → 0 ≤ k → k < U 28 r.toNat → 0 ≤ U 5 (U 29 (6 * r + k).toNat).toNat ∧ U 18 (U 5 (U 29 (6 * r + k).toNat).toNat).toNat = 3) (tD : ∀ r r' k k' : Int, 0 ≤ r → r < U 25 0 → U 27 r.toNat = 0 → 0 ≤ r' → r' < U 25 0 → U 27 r'.toNat = 0 → 0 ≤ k → k < U 28 r.toNat → 0 ≤ k' → k' < U 28 r'.toNat → U 5 (U 29 (6 * r + k).toNat).toNat = U 5 (U 29 (6 * r' + k').toNat).toNat → r = r') (t27 : ∀ i : Nat, U 25 0 ≤ (i : Int) → U 27 i = 0) (cA : ∀ c : Int, 0 ≤ c → c < U 11 0 → U 15 c.toNat = 1 → 0 ≤ U 16 c.toNat → U 18 (U 16 c.toNat).toNat = 0) (cD : ∀ c c' : Int, 0 ≤ c → c < U 11 0 → U 15 c.toNat = 1 → 0 ≤ c' → c' < U 11 0 → U 15 c'.toNat = 1 → 0 ≤ U 16 c.toNat → U 16 c.toNat = U 16 c'.toNat → c = c') (u1 : ∀ c c' : Int, 0 ≤ c → c < U 11 0 → U 15 c.toNat = 1 → 0 ≤ c' → c' < U 11 0 → U 15 c'.toNat = 1 → U 13 c.toNat = U 13 c'.toNat → c = c') (nT : U 25 0 ≤ (cnt (U 18) (U 17 0).toNat : Int)) (rR : uRp U) (rA : ∀ k, k = 6 ∨ k = 7 ∨ k = 25 ∨ k = 28 ∨ k = 29 → rp U (U 33 0).toNat k = U k) : RR U V := ⟨e1, e2, e4, e6, e7, e10, e11, e12, e13, e14, e15, e17, e18, e19, e20, e21, e23, e24, e25, e26, e27, e28, e29, s1, s2, s11, s17, s25, s33, s41, s42, s43, s45, s46, i3, i4, i5, i6, i7, i8, i9, i30, i10, i13, i14, i15, i16, i31, i32, i18, i19, i20, i21, i22, i23, i24, i26, i27, i28, i29, i34, r3, r5, v5, r8, v8, r9, c9, r16, v16, r22, v22, o9, oA, oC, oD, bA, bD, bB, bC, tA, tD, t27, cA, cD, u1, nT, rR, rA⟩
theorem RR.uI (h : RR U V) : uI U := ⟨⟨h.s1, h.s2, h.s11, h.s17, h.s25, h.s33, h.s41, h.s42, h.s43, h.s45, h.s46⟩, fun j a b => ⟨h.i3 j a b, h.i4 j a b, h.i5 j a b⟩, h.i6, h.i7, h.i8, fun j a b => ⟨h.i9 j a b, h.i30 j a b⟩, h.i10, fun j a b => ⟨h.i13 j a b, h.i14 j a b, h.i15 j a b, h.i16 j a b, h.i31 j a b⟩, h.i32, fun j a b => ⟨h.i18 j a b, h.i19 j a b, h.i20 j a b, h.i21 j a b, h.i22 j a b, h.i23 j a b⟩, h.i24, fun j a b => ⟨h.i26 j a b, h.i27 j a b, h.i28 j a b⟩, h.i29, h.i34⟩
theorem RR.mI (h : RR U V) : mI V := by
  have g1 := h.s1; have g2 := h.s2; have g11 := h.s11; have g17 := h.s17; have g25 := h.s25
  have a4 := h.i4; have a3 := h.i3; have a5 := h.v5; have a6 := h.i6; have a7 := h.i7; have a9 := h.i9; have a10 := h.i10; have a13 := h.i13; have a14 := h.i14; have a15 := h.i15; have a16 := h.v16
  have a18 := h.i18; have a19 := h.i19; have a20 := h.i20; have a21 := h.i21; have a23 := h.i23; have a24 := h.i24; have a26 := h.i26; have a27 := h.i27; have a28 := h.i28; have a29 := h.i29
  rw [h.e1] at g1
  rw [h.e11] at g11 a9 a13 a14 a15 a16
  rw [h.e2] at g2 a3 a4 a5 a7 a24 a29
  rw [h.e17] at g17 a5 a16 a18 a19 a20 a21 a23 a24
  rw [h.e25] at g25 a26 a27 a28 a29
  rw [h.e4] at a4
  rw [h.e6] at a6 a7
  rw [h.e7] at a7
  rw [h.e10] at a10
  rw [h.e13] at a13
  rw [h.e14] at a14
  rw [h.e15] at a15
  rw [h.e18] at a18
  rw [h.e19] at a19
  rw [h.e20] at a20
  rw [h.e21] at a21
  rw [h.e23] at a23 a24
  rw [h.e24] at a24
  rw [h.e26] at a26
  rw [h.e27] at a27
  rw [h.e28] at a28 a29
  rw [h.e29] at a29
  refine ⟨⟨g1, g2, g11, g17, g25⟩, fun j a b => ⟨a4 j a b, a5 j a b, ?_⟩, a6, a7, h.v8, fun j a b => ?_, a10, fun j a b => ⟨a13 j a b, a14 j a b, a15 j a b, a16 j a b⟩, fun j a b => ⟨a18 j a b, a19 j a b, a20 j a b, a21 j a b, h.v22 _, a23 j a b⟩, a24, fun j a b => ⟨a26 j a b, a27 j a b, a28 j a b⟩, a29⟩
  · have := a3 j a b
    rw [h.r3]
    split <;> omega
  · have := a9 j a b
    rw [h.r9 j a b]
    split <;> omega
/-- what the reference has thrown says nothing of the rest -/
theorem RR.thr (h : RR U V) {x : Int} : RR U (vS V 0 0 x) := ⟨h.e1, h.e2, h.e4, h.e6, h.e7, h.e10, h.e11, h.e12, h.e13, h.e14, h.e15, h.e17, h.e18, h.e19, h.e20, h.e21, h.e23, h.e24, h.e25, h.e26, h.e27, h.e28, h.e29, h.s1, h.s2, h.s11, h.s17, h.s25, h.s33, h.s41, h.s42, h.s43, h.s45, h.s46, h.i3, h.i4, h.i5, h.i6, h.i7, h.i8, h.i9, h.i30, h.i10, h.i13, h.i14, h.i15, h.i16, h.i31, h.i32, h.i18, h.i19, h.i20, h.i21, h.i22, h.i23, h.i24, h.i26, h.i27, h.i28, h.i29, h.i34, h.r3, h.r5, h.v5, h.r8, h.v8, h.r9, h.c9, h.r16, h.v16, h.r22, h.v22, h.o9, h.oA, h.oC, h.oD, h.bA, h.bD, h.bB, h.bC, h.tA, h.tD, h.t27, h.cA, h.cD, h.u1, h.nT, h.rR, h.rA⟩
end
theorem RR.start : RR uZ vZ := by
  have z : ∀ {P : Prop} (j : Int), 0 ≤ j → j < 0 → P := fun j h0 h1 => absurd h1 (by omega)
  have fb0 : ∀ g : Int, fBit 0 g = 0 := fun g => by unfold fBit; simp
  exact RR.mk (e1 := rfl)
    (e2 := rfl)
    (e4 := rfl)
    (e6 := rfl)
    (e7 := rfl)
    (e10 := rfl)
    (e11 := rfl)
    (e12 := rfl)
    (e13 := rfl)
    (e14 := rfl)
    (e15 := rfl)
    (e17 := rfl)
    (e18 := rfl)
    (e19 := rfl)
    (e20 := rfl)
    (e21 := rfl)
    (e23 := rfl)
    (e24 := rfl)
    (e25 := rfl)
    (e26 := rfl)
    (e27 := rfl)
    (e28 := rfl)
    (e29 := rfl)
    (s1 := by decide)
    (s2 := by decide)
    (s11 := by decide)
    (s17 := by decide)
    (s25 := by decide)
    (s33 := by decide)
    (s41 := rfl)
    (s42 := rfl)
    (s43 := rfl)
    (s45 := rfl)
    (s46 := rfl)
    (i3 := fun j a b => z j a b)
    (i4 := fun j a b => z j a b)
    (i5 := fun j a b => z j a b)
    (i6 := fun j a b => ⟨Int.le_refl 0, show (0 : Int) ≤ 6 by decide⟩)
    (i7 := fun a k _ _ h0 h1 => z k h0 h1)
    (i8 := fun j a b => Or.inl rfl)
    (i9 := fun j a b => ⟨Int.le_refl (-1), show (-1 : Int) < 0 by decide⟩)
    (i30 := fun j a b => Or.inl rfl)
    (i10 := fun j a b => by
            show 0 ≤ (if j.toNat < 3 then (1 : Int) else 0) ∧ (if j.toNat < 3 then (1 : Int) else 0) ≤ 3
            split <;> omega)
    (i13 := fun j a b => z j a b)
    (i14 := fun j a b => z j a b)
    (i15 := fun j a b => z j a b)
    (i16 := fun j a b => z j a b)
    (i31 := fun j a b => z j a b)
    (i32 := fun j k a b _ _ => z j a b)
    (i18 := fun j a b => z j a b)
    (i19 := fun j a b => z j a b)
    (i20 := fun j a b => z j a b)
    (i21 := fun j a b => z j a b)
    (i22 := fun j a b => z j a b)
    (i23 := fun j a b => z j a b)
    (i24 := fun j k a b _ _ => z j a b)
    (i26 := fun j a b => z j a b)
    (i27 := fun j a b => z j a b)
    (i28 := fun j a b => z j a b)
    (i29 := fun j k a b _ _ => z j a b)
    (i34 := fun j a b => z j a b)
    (r3 := fun i => rfl)
    (r5 := fun j a b => z j a b)
    (v5 := fun j a b => z j a b)
    (r8 := fun f g _ _ _ _ => fb0 g)
    (v8 := fun f _ _ => ⟨Int.le_refl 0, show (0 : Int) ≤ 15 by decide⟩)
    (r9 := fun k a b => by
            show (if k.toNat < 6 then (-1 : Int) else 0) = if (0 : Int) = 1 then -2 else -1
            rw [if_pos (by omega), if_neg (by decide)])
    (c9 := fun k _ _ _ => rfl)
    (r16 := fun j a b _ => z j a b)
    (v16 := fun j a b => z j a b)
    (r22 := fun j a b _ => z j a b)
    (v22 := fun i => ⟨Int.le_refl 0, show (0 : Int) ≤ 10010 by decide⟩)
    (o9 := fun k _ _ h => absurd (show (0 : Int) ≤ -1 from h) (by decide))
    (oA := fun c j a b => z c a b)
    (oC := fun c k a b => z c a b)
    (oD := fun c a b => z c a b)
    (bA := fun b j h0 h1 => z b h0 h1)
    (bD := fun b i j h0 h1 => z b h0 h1)
    (bB := fun w a b => z w a b)
    (bC := fun w a b => z w a b)
    (tA := fun r k a b => z r a b)
    (tD := fun r r' k k' a b => z r a b)
    (t27 := fun i _ => rfl)
    (cA := fun c a b => z c a b)
    (cD := fun c c' a b => z c a b)
    (u1 := fun c c' a b => z c a b)
    (nT := by decide)
    (rR := fun e he => absurd he (by show ¬ (e : Int) < 0; omega))
    (rA := fun k hk => by rcases hk with rfl | rfl | rfl | rfl | rfl <;> rfl)
