/-! THE SYSTEM's ranges -/
def uS (U : gV) : Prop := (0 ≤ U 1 0 ∧ U 1 0 ≤ 10000) ∧ (0 ≤ U 2 0 ∧ U 2 0 ≤ 30) ∧ (0 ≤ U 11 0 ∧ U 11 0 ≤ 60) ∧ (0 ≤ U 17 0 ∧ U 17 0 ≤ 40) ∧ (0 ≤ U 25 0 ∧ U 25 0 ≤ 40) ∧ (0 ≤ U 33 0 ∧ U 33 0 ≤ 64) ∧ U 41 0 = U 2 0 ∧ U 42 0 = U 17 0 ∧ U 43 0 = U 11 0 ∧ U 45 0 = U 25 0 ∧ U 46 0 = U 33 0
def uI (U : gV) : Prop := uS U ∧
  (∀ j : Int, 0 ≤ j → j < U 2 0 → (-1 ≤ U 3 j.toNat ∧ U 3 j.toNat ≤ 14) ∧ (-1 ≤ U 4 j.toNat ∧ U 4 j.toNat ≤ 3) ∧ -1 ≤ U 5 j.toNat ∧ U 5 j.toNat < U 17 0) ∧
  (∀ j : Int, 0 ≤ j → j < 15 → 0 ≤ U 6 j.toNat ∧ U 6 j.toNat ≤ 6) ∧
  (∀ a k : Int, 0 ≤ a → a < 15 → 0 ≤ k → k < U 6 a.toNat → 0 ≤ U 7 (6 * a + k).toNat ∧ U 7 (6 * a + k).toNat < U 2 0) ∧
  (∀ j : Int, 0 ≤ j → j < 16 → U 8 j.toNat = 0 ∨ U 8 j.toNat = 1) ∧
  (∀ j : Int, 0 ≤ j → j < 6 → (-1 ≤ U 9 j.toNat ∧ U 9 j.toNat < U 11 0) ∧ (U 30 j.toNat = 0 ∨ U 30 j.toNat = 1)) ∧
  (∀ j : Int, 0 ≤ j → j < 3 → 0 ≤ U 10 j.toNat ∧ U 10 j.toNat ≤ 3) ∧
  (∀ j : Int, 0 ≤ j → j < U 11 0 → (0 ≤ U 13 j.toNat ∧ U 13 j.toNat ≤ 5) ∧ (0 ≤ U 14 j.toNat ∧ U 14 j.toNat ≤ 2) ∧ (U 15 j.toNat = 0 ∨ U 15 j.toNat = 1) ∧ (-1 ≤ U 16 j.toNat ∧ U 16 j.toNat < U 17 0) ∧ 0 ≤ U 31 j.toNat ∧ U 31 j.toNat ≤ 2) ∧
  (∀ a k : Int, 0 ≤ a → a < U 11 0 → 0 ≤ k → k < U 31 a.toNat → 0 ≤ U 32 (2 * a + k).toNat ∧ U 32 (2 * a + k).toNat < 6) ∧
  (∀ j : Int, 0 ≤ j → j < U 17 0 → (0 ≤ U 18 j.toNat ∧ U 18 j.toNat ≤ 5) ∧ (0 ≤ U 19 j.toNat ∧ U 19 j.toNat ≤ 3) ∧ (0 ≤ U 20 j.toNat ∧ U 20 j.toNat ≤ 5) ∧ (0 ≤ U 21 j.toNat ∧ U 21 j.toNat ≤ 2) ∧ (0 ≤ U 22 j.toNat ∧ U 22 j.toNat ≤ 10010) ∧ 0 ≤ U 23 j.toNat ∧ U 23 j.toNat ≤ 30) ∧
  (∀ a k : Int, 0 ≤ a → a < U 17 0 → 0 ≤ k → k < U 23 a.toNat → 0 ≤ U 24 (30 * a + k).toNat ∧ U 24 (30 * a + k).toNat < U 2 0) ∧
  (∀ j : Int, 0 ≤ j → j < U 25 0 → (0 ≤ U 26 j.toNat ∧ U 26 j.toNat ≤ 2) ∧ (U 27 j.toNat = 0 ∨ U 27 j.toNat = 1) ∧ 0 ≤ U 28 j.toNat ∧ U 28 j.toNat ≤ 6) ∧
  (∀ a k : Int, 0 ≤ a → a < U 25 0 → 0 ≤ k → k < U 28 a.toNat → 0 ≤ U 29 (6 * a + k).toNat ∧ U 29 (6 * a + k).toNat < U 2 0) ∧
  (∀ j : Int, 0 ≤ j → j < U 33 0 → 0 ≤ U 34 j.toNat ∧ U 34 j.toNat ≤ 3)
section
variable {U : gV}
theorem uIs (h : uI U) : uS U := h.1
theorem uI3 (h : uI U) {j : Int} (h0 : 0 ≤ j) (h1 : j < U 2 0) : -1 ≤ U 3 j.toNat ∧ U 3 j.toNat ≤ 14 := (h.2.1 j h0 h1).1
theorem uI4 (h : uI U) {j : Int} (h0 : 0 ≤ j) (h1 : j < U 2 0) : -1 ≤ U 4 j.toNat ∧ U 4 j.toNat ≤ 3 := (h.2.1 j h0 h1).2.1
theorem uI5 (h : uI U) {j : Int} (h0 : 0 ≤ j) (h1 : j < U 2 0) : -1 ≤ U 5 j.toNat ∧ U 5 j.toNat < U 17 0 := (h.2.1 j h0 h1).2.2
theorem uI6 (h : uI U) {j : Int} (h0 : 0 ≤ j) (h1 : j < 15) : 0 ≤ U 6 j.toNat ∧ U 6 j.toNat ≤ 6 := h.2.2.1 j h0 h1
theorem uI7 (h : uI U) {a k : Int} (h0 : 0 ≤ a) (h1 : a < 15) (h2 : 0 ≤ k) (h3 : k < U 6 a.toNat) : 0 ≤ U 7 (6 * a + k).toNat ∧ U 7 (6 * a + k).toNat < U 2 0 := h.2.2.2.1 a k h0 h1 h2 h3
theorem uI8 (h : uI U) {j : Int} (h0 : 0 ≤ j) (h1 : j < 16) : U 8 j.toNat = 0 ∨ U 8 j.toNat = 1 := h.2.2.2.2.1 j h0 h1
theorem uI9 (h : uI U) {j : Int} (h0 : 0 ≤ j) (h1 : j < 6) : -1 ≤ U 9 j.toNat ∧ U 9 j.toNat < U 11 0 := (h.2.2.2.2.2.1 j h0 h1).1
theorem uI30 (h : uI U) {j : Int} (h0 : 0 ≤ j) (h1 : j < 6) : U 30 j.toNat = 0 ∨ U 30 j.toNat = 1 := (h.2.2.2.2.2.1 j h0 h1).2
theorem uI10 (h : uI U) {j : Int} (h0 : 0 ≤ j) (h1 : j < 3) : 0 ≤ U 10 j.toNat ∧ U 10 j.toNat ≤ 3 := h.2.2.2.2.2.2.1 j h0 h1
theorem uI13 (h : uI U) {j : Int} (h0 : 0 ≤ j) (h1 : j < U 11 0) : 0 ≤ U 13 j.toNat ∧ U 13 j.toNat ≤ 5 := (h.2.2.2.2.2.2.2.1 j h0 h1).1
theorem uI14 (h : uI U) {j : Int} (h0 : 0 ≤ j) (h1 : j < U 11 0) : 0 ≤ U 14 j.toNat ∧ U 14 j.toNat ≤ 2 := (h.2.2.2.2.2.2.2.1 j h0 h1).2.1
theorem uI15 (h : uI U) {j : Int} (h0 : 0 ≤ j) (h1 : j < U 11 0) : U 15 j.toNat = 0 ∨ U 15 j.toNat = 1 := (h.2.2.2.2.2.2.2.1 j h0 h1).2.2.1
theorem uI16 (h : uI U) {j : Int} (h0 : 0 ≤ j) (h1 : j < U 11 0) : -1 ≤ U 16 j.toNat ∧ U 16 j.toNat < U 17 0 := (h.2.2.2.2.2.2.2.1 j h0 h1).2.2.2.1
theorem uI31 (h : uI U) {j : Int} (h0 : 0 ≤ j) (h1 : j < U 11 0) : 0 ≤ U 31 j.toNat ∧ U 31 j.toNat ≤ 2 := (h.2.2.2.2.2.2.2.1 j h0 h1).2.2.2.2
theorem uI32 (h : uI U) {a k : Int} (h0 : 0 ≤ a) (h1 : a < U 11 0) (h2 : 0 ≤ k) (h3 : k < U 31 a.toNat) : 0 ≤ U 32 (2 * a + k).toNat ∧ U 32 (2 * a + k).toNat < 6 := h.2.2.2.2.2.2.2.2.1 a k h0 h1 h2 h3
theorem uIb (h : uI U) {j : Int} (h0 : 0 ≤ j) (h1 : j < U 17 0) : (0 ≤ U 18 j.toNat ∧ U 18 j.toNat ≤ 5) ∧ (0 ≤ U 19 j.toNat ∧ U 19 j.toNat ≤ 3) ∧ (0 ≤ U 20 j.toNat ∧ U 20 j.toNat ≤ 5) ∧ (0 ≤ U 21 j.toNat ∧ U 21 j.toNat ≤ 2) ∧ (0 ≤ U 22 j.toNat ∧ U 22 j.toNat ≤ 10010) ∧ 0 ≤ U 23 j.toNat ∧ U 23 j.toNat ≤ 30 := h.2.2.2.2.2.2.2.2.2.1 j h0 h1
theorem uI24 (h : uI U) {a k : Int} (h0 : 0 ≤ a) (h1 : a < U 17 0) (h2 : 0 ≤ k) (h3 : k < U 23 a.toNat) : 0 ≤ U 24 (30 * a + k).toNat ∧ U 24 (30 * a + k).toNat < U 2 0 := h.2.2.2.2.2.2.2.2.2.2.1 a k h0 h1 h2 h3
theorem uIt (h : uI U) {j : Int} (h0 : 0 ≤ j) (h1 : j < U 25 0) : (0 ≤ U 26 j.toNat ∧ U 26 j.toNat ≤ 2) ∧ (U 27 j.toNat = 0 ∨ U 27 j.toNat = 1) ∧ 0 ≤ U 28 j.toNat ∧ U 28 j.toNat ≤ 6 := h.2.2.2.2.2.2.2.2.2.2.2.1 j h0 h1
theorem uI29 (h : uI U) {a k : Int} (h0 : 0 ≤ a) (h1 : a < U 25 0) (h2 : 0 ≤ k) (h3 : k < U 28 a.toNat) : 0 ≤ U 29 (6 * a + k).toNat ∧ U 29 (6 * a + k).toNat < U 2 0 := h.2.2.2.2.2.2.2.2.2.2.2.2.1 a k h0 h1 h2 h3
theorem uI34 (h : uI U) {j : Int} (h0 : 0 ≤ j) (h1 : j < U 33 0) : 0 ≤ U 34 j.toNat ∧ U 34 j.toNat ≤ 3 := h.2.2.2.2.2.2.2.2.2.2.2.2.2 j h0 h1
end
