/-! things are taken in: a wagon, an event, a booking, a call, a train -/
section
variable {EV : gEV} {M : gM} {A : gAd} {U : gV}
theorem alN_lt {i : Nat} (h : i < 6) : alN U i = if i = 0 then 15 else if i = 1 then U 2 0 else if i = 2 then U 11 0 else if i = 3 then U 17 0 else if i = 4 then U 25 0 else U 33 0 := by
  unfold alN
  (repeat' split) <;> first | rfl | omega
/-- a wagon -/
def uW (U : gV) (p : Int) : gV := vS (vS (vS (vS U 3 (U 41 0).toNat p) 4 (U 41 0).toNat (-1)) 5 (U 41 0).toNat (-1)) 41 0 (U 41 0 + 1)
theorem TD.newW (h : TD EV M A U) {q : Nat} {p : Int} (h0 : 0 ≤ U 41 0) (hM : M q = some ((11, (U 41 0).toNat), .inr (7, [.int (iI (U 41 0)), .int (iI p), .int (iI (-1)), .null])))
    (g1 : U 2 0 ≤ U 41 0) (g2 : ∀ b j : Nat, (b : Int) < U 42 0 → (j : Int) < U 23 b → (U 24 (30 * b + j)).toNat < U 41 0) (g3 : ∀ i j : Nat, i < 15 → (j : Int) < U 6 i → (U 7 (6 * i + j)).toNat < U 41 0) (g4 : ∀ r j : Nat, (r : Int) < U 45 0 → (j : Int) < U 28 r → (U 29 (6 * r + j)).toNat < U 41 0) : TD EV M (aS A 11 (U 41 0).toNat q) (uW U p) := by
  refine h.take (fun t e he => ?_) (fun i hi => Or.inl ⟨hi, rfl, rfl, fun j hj => ?_⟩) (fun i hi => Or.inl ⟨hi, rfl, rfl, fun j hj => ?_⟩)
  · obtain ⟨c, j⟩ := t
    by_cases hc : c = 11
    · subst hc
      by_cases hj : j = (U 41 0).toNat
      · subst hj
        refine Or.inr ?_
        have e1 : sC EV (aS A 11 (U 41 0).toNat q) (uW U p) (11, (U 41 0).toNat) = some (.inr (7, [.int (iI (U 41 0)), .int (iI p), .int (iI (-1)), .null])) := by
          rw [sC_11 (by show ((U 41 0).toNat : Int) < vS _ 41 0 _ 41 0; rw [vS_s]; omega)]
          have n1 : uW U p 3 (U 41 0).toNat = p := by
            show vS U 3 _ _ 3 _ = _
            rw [vS_s]
          have n2 : uW U p 4 (U 41 0).toNat = -1 := by
            show vS _ 4 _ _ 4 _ = _
            rw [vS_s]
          have n3 : uW U p 5 (U 41 0).toNat = -1 := by
            show vS _ 5 _ _ 5 _ = _
            rw [vS_s]
          rw [n1, n2, n3, rfA_0 (by omega), show (((U 41 0).toNat : Nat) : Int) = U 41 0 by omega]
        rw [e1] at he
        cases he
        rw [aS_s]
        exact hM
      · refine Or.inl ?_
        by_cases hlt : (j : Int) < U 41 0
        · rw [sC_11 (by show (j : Int) < vS _ 41 0 _ 41 0; rw [vS_s]; omega)] at he
          have n1 : uW U p 3 j = U 3 j := by
            show vS U 3 _ _ 3 _ = _
            rw [vS_i hj]
          have n2 : uW U p 4 j = U 4 j := by
            show vS _ 4 _ _ 4 _ = _
            rw [vS_i hj]; rfl
          have n3 : uW U p 5 j = U 5 j := by
            show vS _ 5 _ _ 5 _ = _
            rw [vS_i hj]; rfl
          rw [n1, n2, n3] at he
          exact ⟨(sC_11 hlt).trans he, aS_n (Or.inr hj)⟩
        · have e1 : sC EV (aS A 11 (U 41 0).toNat q) (uW U p) (11, j) = none := if_neg (by show ¬ (j : Int) < vS _ 41 0 _ 41 0; rw [vS_s]; omega)
          rw [e1] at he
          cases he
    · have e1 : sC EV (aS A 11 (U 41 0).toNat q) (uW U p) (c, j) = sC EV A U (c, j) := by
        unfold sC
        split <;> first | rfl | (rename_i h; exact absurd h hc)
      rw [e1] at he
      exact Or.inl ⟨he, aS_n (Or.inl hc)⟩
  · unfold alF
    by_cases h0 : i = 0
    · rw [if_pos h0, if_pos h0]; rfl
    · rw [if_neg h0, if_neg h0]
      by_cases h1 : i = 1
      · subst h1
        rw [if_pos rfl, if_pos rfl]
        have hj2 : (j : Int) < U 2 0 := hj
        exact aS_n (Or.inr (by omega))
      · rw [if_neg h1, if_neg h1]
        by_cases h6 : i < 6
        · (repeat' split) <;> first | rfl | omega
        · by_cases h100 : i < 100
          · have h10 : 10 ≤ i := by
              have h2 : alL U i := hi
              unfold alL at h2
              omega
            obtain ⟨b, rfl⟩ : ∃ b, i = 10 + b := ⟨i - 10, by omega⟩
            have h2 : alL U (10 + b) := hi
            unfold alL at h2
            rw [alN_b _ (by omega)] at hj
            rw [if_neg (by omega), if_neg (by omega), if_neg (by omega), if_neg (by omega), if_pos h100, if_neg (by omega), if_neg (by omega), if_neg (by omega), if_neg (by omega), if_pos h100, show 10 + b - 10 = b by omega]
            have h3 := g2 b j (by omega) hj
            exact aS_n (Or.inr (by show ¬ (U 24 (30 * b + j)).toNat = _; omega))
          · (repeat' split) <;> first | rfl | omega
  · by_cases h15 : i < 15
    · rw [llN_t h15] at hj
      rw [llF_t h15, llF_t h15]
      have h3 := g3 i j h15 hj
      exact aS_n (Or.inr (by show ¬ (U 7 (6 * i + j)).toNat = _; omega))
    · obtain ⟨r, rfl⟩ : ∃ r, i = 15 + r := ⟨i - 15, by omega⟩
      have h2 : llL U (15 + r) := hi
      unfold llL at h2
      rw [llN_r] at hj
      rw [llF_r, llF_r]
      have h3 := g4 r j (by omega) hj
      exact aS_n (Or.inr (by show ¬ (U 29 (6 * r + j)).toNat = _; omega))
/-- an event -/
def uEv (U : gV) (k x y w : Int) : gV := vS (vS (vS (vS (vS U 34 (U 46 0).toNat k) 35 (U 46 0).toNat x) 36 (U 46 0).toNat y) 37 (U 46 0).toNat w) 46 0 (U 46 0 + 1)
def evC (k x y w : Int) : va_E := if k = 0 then .inr (9, [.int (iI x), .int (iI y)]) else if k = 1 then .inr (12, [.int (iI x), .int (iI y), .int (iI w)]) else if k = 2 then .inr (19, [.int (iI x)]) else .inr (20, [.int (iI x), .int (iI y)])
theorem TD.newE (h : TD EV M A U) {q : Nat} {k x y w : Int} (h0 : 0 ≤ U 46 0) (g1 : U 33 0 ≤ U 46 0) (hM : M q = some ((16, (U 46 0).toNat), evC k x y w)) : TD EV M (aS A 16 (U 46 0).toNat q) (uEv U k x y w) := by
  refine h.take (fun t e he => ?_) (fun i hi => Or.inl ⟨hi, rfl, rfl, fun j hj => ?_⟩) (fun i hi => Or.inl ⟨hi, rfl, rfl, fun j hj => rfl⟩)
  · obtain ⟨c, j⟩ := t
    by_cases hc : c = 16
    · subst hc
      by_cases hj : j = (U 46 0).toNat
      · subst hj
        refine Or.inr ?_
        rw [sC_16 (by show ((U 46 0).toNat : Int) < vS _ 46 0 _ 46 0; rw [vS_s]; omega)] at he
        have e1 : sEv (uEv U k x y w) (U 46 0).toNat = evC k x y w := by
          have n1 : uEv U k x y w 34 (U 46 0).toNat = k := by
            show vS U 34 _ _ 34 _ = _
            rw [vS_s]
          have n2 : uEv U k x y w 35 (U 46 0).toNat = x := by
            show vS _ 35 _ _ 35 _ = _
            rw [vS_s]
          have n3 : uEv U k x y w 36 (U 46 0).toNat = y := by
            show vS _ 36 _ _ 36 _ = _
            rw [vS_s]
          have n4 : uEv U k x y w 37 (U 46 0).toNat = w := by
            show vS _ 37 _ _ 37 _ = _
            rw [vS_s]
          unfold sEv evC
          rw [n1, n2, n3, n4]
        rw [e1] at he
        cases he
        rw [aS_s]
        exact hM
      · refine Or.inl ?_
        by_cases hlt : (j : Int) < U 46 0
        · rw [sC_16 (by show (j : Int) < vS _ 46 0 _ 46 0; rw [vS_s]; omega)] at he
          have e1 : sEv (uEv U k x y w) j = sEv U j := by
            have n1 : uEv U k x y w 34 j = U 34 j := by
              show vS U 34 _ _ 34 _ = _
              rw [vS_i hj]
            have n2 : uEv U k x y w 35 j = U 35 j := by
              show vS _ 35 _ _ 35 _ = _
              rw [vS_i hj]; rfl
            have n3 : uEv U k x y w 36 j = U 36 j := by
              show vS _ 36 _ _ 36 _ = _
              rw [vS_i hj]; rfl
            have n4 : uEv U k x y w 37 j = U 37 j := by
              show vS _ 37 _ _ 37 _ = _
              rw [vS_i hj]; rfl
            unfold sEv
            rw [n1, n2, n3, n4]
          rw [e1] at he
          exact ⟨(sC_16 hlt).trans he, aS_n (Or.inr hj)⟩
        · have e1 : sC EV (aS A 16 (U 46 0).toNat q) (uEv U k x y w) (16, j) = none := if_neg (by show ¬ (j : Int) < vS _ 46 0 _ 46 0; rw [vS_s]; omega)
          rw [e1] at he
          cases he
    · have e1 : sC EV (aS A 16 (U 46 0).toNat q) (uEv U k x y w) (c, j) = sC EV A U (c, j) := by
        unfold sC
        split <;> first | rfl | (rename_i h; exact absurd h hc)
      rw [e1] at he
      exact Or.inl ⟨he, aS_n (Or.inl hc)⟩
  · by_cases h5 : i = 5
    · subst h5
      have hj2 : (j : Int) < U 33 0 := hj
      show aS A 16 (U 46 0).toNat q 16 j = A 16 j
      exact aS_n (Or.inr (by omega))
    · unfold alF
      (repeat' split) <;> first | rfl | exact absurd (by assumption) h5
/-- a booking, its list of wagons at a -/
def uB (U : gV) (c y g : Int) : gV := vS (vS (vS (vS (vS (vS (vS U 18 (U 42 0).toNat 0) 19 (U 42 0).toNat g) 20 (U 42 0).toNat c) 21 (U 42 0).toNat y) 22 (U 42 0).toNat 0) 23 (U 42 0).toNat 0) 42 0 (U 42 0 + 1)
theorem TD.newB (h : TD EV M A U) {q a : Nat} {c y g : Int} (h0 : 0 ≤ U 42 0 ∧ U 42 0 < 90) (g1 : U 17 0 ≤ U 42 0) (hM : M q = some ((12, (U 42 0).toNat), .inr (16, [.int (iI (U 42 0)), .int (iI c), .int (iI y), .int (iI g), .ref a, .ref (EV.2.2.2 (10 + 0)), .int (iI 0)]))) (hA : gAL EV M (10 + (U 42 0).toNat) a 0 (fun _ => 0))
    (g2 : ∀ w : Nat, (w : Int) < U 41 0 → U 5 w < U 42 0) (g3 : ∀ c : Nat, (c : Int) < U 43 0 → U 16 c < U 42 0) : TD EV M (aS (aS A 12 (U 42 0).toNat q) 30 (10 + (U 42 0).toNat) a) (uB U c y g) := by
  have hrf : ∀ x : Int, x < U 42 0 → rfA (aS (aS A 12 (U 42 0).toNat q) 30 (10 + (U 42 0).toNat) a) 12 x = rfA A 12 x := by
    intro x hx
    unfold rfA
    split
    · rfl
    · rw [aS_n (Or.inl (by decide)), aS_n (Or.inr (by omega))]
  refine h.take (fun t e he => ?_) (fun i hi => ?_) (fun i hi => Or.inl ⟨hi, rfl, rfl, fun j hj => rfl⟩)
  · obtain ⟨k, j⟩ := t
    by_cases hc : k = 12
    · subst hc
      by_cases hj : j = (U 42 0).toNat
      · subst hj
        refine Or.inr ?_
        have e1 : sC EV (aS (aS A 12 (U 42 0).toNat q) 30 (10 + (U 42 0).toNat) a) (uB U c y g) (12, (U 42 0).toNat) = some (.inr (16, [.int (iI (U 42 0)), .int (iI c), .int (iI y), .int (iI g), .ref a, .ref (EV.2.2.2 (10 + 0)), .int (iI 0)])) := by
          rw [sC_12 (by show ((U 42 0).toNat : Int) < vS _ 42 0 _ 42 0; rw [vS_s]; omega)]
          have n1 : uB U c y g 20 (U 42 0).toNat = c := by
            show vS _ 20 _ _ 20 _ = _
            rw [vS_s]
          have n2 : uB U c y g 21 (U 42 0).toNat = y := by
            show vS _ 21 _ _ 21 _ = _
            rw [vS_s]
          have n3 : uB U c y g 19 (U 42 0).toNat = g := by
            show vS _ 19 _ _ 19 _ = _
            rw [vS_s]
          have n4 : uB U c y g 18 (U 42 0).toNat = 0 := by
            show vS U 18 _ _ 18 _ = _
            rw [vS_s]
          have n5 : uB U c y g 22 (U 42 0).toNat = 0 := by
            show vS _ 22 _ _ 22 _ = _
            rw [vS_s]
          rw [n1, n2, n3, n4, n5, aS_s, show (((U 42 0).toNat : Nat) : Int) = U 42 0 by omega]
          rfl
        rw [e1] at he
        cases he
        rw [aS_n (Or.inl (by show ¬ (12 : Nat) = 30; decide)), aS_s]
        exact hM
      · refine Or.inl ?_
        by_cases hlt : (j : Int) < U 42 0
        · rw [sC_12 (by show (j : Int) < vS _ 42 0 _ 42 0; rw [vS_s]; omega)] at he
          have n1 : uB U c y g 20 j = U 20 j := by
            show vS _ 20 _ _ 20 _ = _
            rw [vS_i hj]; rfl
          have n2 : uB U c y g 21 j = U 21 j := by
            show vS _ 21 _ _ 21 _ = _
            rw [vS_i hj]; rfl
          have n3 : uB U c y g 19 j = U 19 j := by
            show vS _ 19 _ _ 19 _ = _
            rw [vS_i hj]; rfl
          have n4 : uB U c y g 18 j = U 18 j := by
            show vS U 18 _ _ 18 _ = _
            rw [vS_i hj]
          have n5 : uB U c y g 22 j = U 22 j := by
            show vS _ 22 _ _ 22 _ = _
            rw [vS_i hj]; rfl
          rw [n1, n2, n3, n4, n5, aS_n (Or.inr (by omega)), show aS A 12 (U 42 0).toNat q 30 (10 + j) = A 30 (10 + j) from rfl] at he
          exact ⟨(sC_12 hlt).trans he, (aS_n (Or.inl (by show ¬ (12 : Nat) = 30; decide))).trans (aS_n (Or.inr hj))⟩
        · have e1 : sC EV (aS (aS A 12 (U 42 0).toNat q) 30 (10 + (U 42 0).toNat) a) (uB U c y g) (12, j) = none := if_neg (by show ¬ (j : Int) < vS _ 42 0 _ 42 0; rw [vS_s]; omega)
          rw [e1] at he
          cases he
    · have e1 : sC EV (aS (aS A 12 (U 42 0).toNat q) 30 (10 + (U 42 0).toNat) a) (uB U c y g) (k, j) = sC EV A U (k, j) := by
        by_cases h11 : k = 11
        · subst h11
          show (if (j : Int) < U 41 0 then some (Sum.inr (7, [Value.int (iI (j : Int)), .int (iI (U 3 j)), .int (iI (U 4 j)), rfA (aS (aS A 12 (U 42 0).toNat q) 30 (10 + (U 42 0).toNat) a) 12 (U 5 j)])) else none) = if (j : Int) < U 41 0 then _ else none
          by_cases hlt : (j : Int) < U 41 0
          · rw [if_pos hlt, if_pos hlt, hrf _ (g2 j hlt)]
          · rw [if_neg hlt, if_neg hlt]
        · by_cases h13 : k = 13
          · subst h13
            show (if (j : Int) < U 43 0 then some (Sum.inr (15, [Value.int (iI (j : Int)), .int (iI (U 13 j)), .int (iI (U 14 j)), .ref (aS (aS A 12 (U 42 0).toNat q) 30 (10 + (U 42 0).toNat) a 30 (100 + j)), rfA (aS (aS A 12 (U 42 0).toNat q) 30 (10 + (U 42 0).toNat) a) 12 (U 16 j), .int (iI (U 15 j))])) else none) = if (j : Int) < U 43 0 then _ else none
            by_cases hlt : (j : Int) < U 43 0
            · rw [if_pos hlt, if_pos hlt, hrf _ (g3 j hlt), aS_n (Or.inr (by omega))]
              rfl
            · rw [if_neg hlt, if_neg hlt]
          · by_cases h10 : k = 10
            · subst h10
              show (if j = 0 then some (Sum.inr (0, [Value.ref (aS (aS A 12 (U 42 0).toNat q) 30 (10 + (U 42 0).toNat) a 30 0), .ref (aS (aS A 12 (U 42 0).toNat q) 30 (10 + (U 42 0).toNat) a 30 1), .ref (A 18 0), .ref (A 20 0), .ref (A 19 0), .ref (aS (aS A 12 (U 42 0).toNat q) 30 (10 + (U 42 0).toNat) a 30 2), .ref (aS (aS A 12 (U 42 0).toNat q) 30 (10 + (U 42 0).toNat) a 30 3), .ref (aS (aS A 12 (U 42 0).toNat q) 30 (10 + (U 42 0).toNat) a 30 4), .ref (aS (aS A 12 (U 42 0).toNat q) 30 (10 + (U 42 0).toNat) a 30 5), .int (iI (U 12 0)), .int (iI (U 1 0))])) else none) = if j = 0 then _ else none
              have hk : ∀ m : Nat, m < 10 → aS (aS A 12 (U 42 0).toNat q) 30 (10 + (U 42 0).toNat) a 30 m = A 30 m := fun m hm => (aS_n (Or.inr (by omega))).trans rfl
              rw [hk 0 (by omega), hk 1 (by omega), hk 2 (by omega), hk 3 (by omega), hk 4 (by omega), hk 5 (by omega)]
            · unfold sC
              split <;> first | rfl | (rename_i h; exact absurd h hc) | (rename_i h; exact absurd h h11) | (rename_i h; exact absurd h h13) | (rename_i h; exact absurd h h10)
      rw [e1] at he
      by_cases h30 : k = 30
      · have h2 := sC_lt he
        rw [h30] at h2
        simp at h2
      · exact Or.inl ⟨he, (aS_n (Or.inl h30)).trans (aS_n (Or.inl hc))⟩
  · by_cases hib : i = 10 + (U 42 0).toNat
    · subst hib
      refine Or.inr ?_
      rw [aS_s, alN_b _ (by omega)]
      have n1 : uB U c y g 23 (U 42 0).toNat = 0 := by
        show vS _ 23 _ _ 23 _ = _
        rw [vS_s]
      rw [n1]
      exact hA.cf (fun j hj => absurd hj (by omega))
    · refine Or.inl ?_
      have h2 : i < 6 ∨ (10 ≤ i ∧ i < 100 ∧ (i : Int) - 10 < vS _ 42 0 (U 42 0 + 1) 42 0) ∨ (100 ≤ i ∧ (i : Int) - 100 < U 43 0) := hi
      rw [vS_s] at h2
      refine ⟨by unfold alL; omega, (aS_n (Or.inr hib)).trans rfl, ?_, fun j hj => ?_⟩
      · by_cases h6 : i < 6
        · rw [alN_lt h6, alN_lt h6]
          rfl
        · by_cases h100 : i < 100
          · obtain ⟨b, rfl⟩ : ∃ b, i = 10 + b := ⟨i - 10, by omega⟩
            rw [alN_b _ (by omega), alN_b _ (by omega)]
            show vS _ 23 _ _ 23 b = _
            rw [vS_i (by omega)]; rfl
          · obtain ⟨b, rfl⟩ : ∃ b, i = 100 + b := ⟨i - 100, by omega⟩
            rw [alN_o, alN_o]; rfl
      · by_cases h3 : i = 3
        · subst h3
          have hj2 : (j : Int) < U 17 0 := hj
          show aS (aS A 12 (U 42 0).toNat q) 30 (10 + (U 42 0).toNat) a 12 j = A 12 j
          rw [aS_n (Or.inl (by decide)), aS_n (Or.inr (by omega))]
        · unfold alF
          (repeat' split) <;> first | rfl | exact absurd (by assumption) h3
/-- a call, its list of trunks at a: n of them, x -/
def uC (U : gV) (c y n x0 x1 : Int) : gV := vS (vS (vS (vS (vS (vS (vS (vS U 13 (U 43 0).toNat c) 14 (U 43 0).toNat y) 15 (U 43 0).toNat 1) 16 (U 43 0).toNat (-1)) 31 (U 43 0).toNat n) 32 (2 * (U 43 0).toNat) x0) 32 (2 * (U 43 0).toNat + 1) x1) 43 0 (U 43 0 + 1)
theorem TD.newC (h : TD EV M A U) {q a : Nat} {c y n x0 x1 : Int} (h0 : 0 ≤ U 43 0) (h42 : U 42 0 ≤ 40) (g1 : U 11 0 ≤ U 43 0) (hn : 0 ≤ n ∧ n ≤ 2) (hM : M q = some ((13, (U 43 0).toNat), .inr (15, [.int (iI (U 43 0)), .int (iI c), .int (iI y), .ref a, .null, .int (iI 1)]))) (hA : gAL EV M (100 + (U 43 0).toNat) a n.toNat (fun j => A 14 (if j = 0 then x0 else x1).toNat))
    (g2 : ∀ k : Nat, k < 6 → U 9 k < U 43 0) (g3 : ∀ c j : Nat, (c : Int) < U 43 0 → (j : Int) < U 31 c → j < 2) : TD EV M (aS (aS A 13 (U 43 0).toNat q) 30 (100 + (U 43 0).toNat) a) (uC U c y n x0 x1) := by
  have hrf : ∀ x : Int, x < U 43 0 → rfA (aS (aS A 13 (U 43 0).toNat q) 30 (100 + (U 43 0).toNat) a) 13 x = rfA A 13 x := by
    intro x hx
    unfold rfA
    split
    · rfl
    · rw [aS_n (Or.inl (by decide)), aS_n (Or.inr (by omega))]
  have hk : ∀ m : Nat, m ≠ 100 + (U 43 0).toNat → aS (aS A 13 (U 43 0).toNat q) 30 (100 + (U 43 0).toNat) a 30 m = A 30 m := fun m hm => (aS_n (Or.inr hm)).trans rfl
  refine h.take (fun t e he => ?_) (fun i hi => ?_) (fun i hi => Or.inl ⟨hi, rfl, rfl, fun j hj => rfl⟩)
  · obtain ⟨k, j⟩ := t
    by_cases hc : k = 13
    · subst hc
      by_cases hj : j = (U 43 0).toNat
      · subst hj
        refine Or.inr ?_
        have e1 : sC EV (aS (aS A 13 (U 43 0).toNat q) 30 (100 + (U 43 0).toNat) a) (uC U c y n x0 x1) (13, (U 43 0).toNat) = some (.inr (15, [.int (iI (U 43 0)), .int (iI c), .int (iI y), .ref a, .null, .int (iI 1)])) := by
          rw [sC_13 (by show ((U 43 0).toNat : Int) < vS _ 43 0 _ 43 0; rw [vS_s]; omega)]
          have n1 : uC U c y n x0 x1 13 (U 43 0).toNat = c := by
            show vS U 13 _ _ 13 _ = _
            rw [vS_s]
          have n2 : uC U c y n x0 x1 14 (U 43 0).toNat = y := by
            show vS _ 14 _ _ 14 _ = _
            rw [vS_s]
          have n3 : uC U c y n x0 x1 15 (U 43 0).toNat = 1 := by
            show vS _ 15 _ _ 15 _ = _
            rw [vS_s]
          have n4 : uC U c y n x0 x1 16 (U 43 0).toNat = -1 := by
            show vS _ 16 _ _ 16 _ = _
            rw [vS_s]
          rw [n1, n2, n3, n4, aS_s, rfA_0 (by omega), show (((U 43 0).toNat : Nat) : Int) = U 43 0 by omega]
        rw [e1] at he
        cases he
        rw [aS_n (Or.inl (by show ¬ (13 : Nat) = 30; decide)), aS_s]
        exact hM
      · refine Or.inl ?_
        by_cases hlt : (j : Int) < U 43 0
        · rw [sC_13 (by show (j : Int) < vS _ 43 0 _ 43 0; rw [vS_s]; omega)] at he
          have n1 : uC U c y n x0 x1 13 j = U 13 j := by
            show vS U 13 _ _ 13 _ = _
            rw [vS_i hj]
          have n2 : uC U c y n x0 x1 14 j = U 14 j := by
            show vS _ 14 _ _ 14 _ = _
            rw [vS_i hj]; rfl
          have n3 : uC U c y n x0 x1 15 j = U 15 j := by
            show vS _ 15 _ _ 15 _ = _
            rw [vS_i hj]; rfl
          have n4 : uC U c y n x0 x1 16 j = U 16 j := by
            show vS _ 16 _ _ 16 _ = _
            rw [vS_i hj]; rfl
          rw [n1, n2, n3, n4, hk _ (by omega), show rfA (aS (aS A 13 (U 43 0).toNat q) 30 (100 + (U 43 0).toNat) a) 12 (U 16 j) = rfA A 12 (U 16 j) from rfl] at he
          exact ⟨(sC_13 hlt).trans he, (aS_n (Or.inl (by show ¬ (13 : Nat) = 30; decide))).trans (aS_n (Or.inr hj))⟩
        · have e1 : sC EV (aS (aS A 13 (U 43 0).toNat q) 30 (100 + (U 43 0).toNat) a) (uC U c y n x0 x1) (13, j) = none := if_neg (by show ¬ (j : Int) < vS _ 43 0 _ 43 0; rw [vS_s]; omega)
          rw [e1] at he
          cases he
    · have e1 : sC EV (aS (aS A 13 (U 43 0).toNat q) 30 (100 + (U 43 0).toNat) a) (uC U c y n x0 x1) (k, j) = sC EV A U (k, j) := by
        by_cases h12 : k = 12
        · subst h12
          show (if (j : Int) < U 42 0 then some (Sum.inr (16, [Value.int (iI (j : Int)), .int (iI (U 20 j)), .int (iI (U 21 j)), .int (iI (U 19 j)), .ref (aS (aS A 13 (U 43 0).toNat q) 30 (100 + (U 43 0).toNat) a 30 (10 + j)), .ref (EV.2.2.2 (10 + (U 18 j).toNat)), .int (iI (U 22 j))])) else none) = if (j : Int) < U 42 0 then _ else none
          by_cases hlt : (j : Int) < U 42 0
          · rw [if_pos hlt, if_pos hlt, hk _ (by omega)]
          · rw [if_neg hlt, if_neg hlt]
        · by_cases h14 : k = 14
          · subst h14
            show (if j < 6 then some (Sum.inr (5, [rfA (aS (aS A 13 (U 43 0).toNat q) 30 (100 + (U 43 0).toNat) a) 13 (U 9 j), .int (iI (U 30 j))])) else none) = if j < 6 then _ else none
            by_cases hlt : j < 6
            · rw [if_pos hlt, if_pos hlt, hrf _ (g2 j hlt)]
            · rw [if_neg hlt, if_neg hlt]
          · by_cases h10 : k = 10
            · subst h10
              show (if j = 0 then some (Sum.inr (0, [Value.ref (aS (aS A 13 (U 43 0).toNat q) 30 (100 + (U 43 0).toNat) a 30 0), .ref (aS (aS A 13 (U 43 0).toNat q) 30 (100 + (U 43 0).toNat) a 30 1), .ref (A 18 0), .ref (A 20 0), .ref (A 19 0), .ref (aS (aS A 13 (U 43 0).toNat q) 30 (100 + (U 43 0).toNat) a 30 2), .ref (aS (aS A 13 (U 43 0).toNat q) 30 (100 + (U 43 0).toNat) a 30 3), .ref (aS (aS A 13 (U 43 0).toNat q) 30 (100 + (U 43 0).toNat) a 30 4), .ref (aS (aS A 13 (U 43 0).toNat q) 30 (100 + (U 43 0).toNat) a 30 5), .int (iI (U 12 0)), .int (iI (U 1 0))])) else none) = if j = 0 then _ else none
              rw [hk 0 (by omega), hk 1 (by omega), hk 2 (by omega), hk 3 (by omega), hk 4 (by omega), hk 5 (by omega)]
            · unfold sC
              split <;> first | rfl | (rename_i h; exact absurd h hc) | (rename_i h; exact absurd h h12) | (rename_i h; exact absurd h h14) | (rename_i h; exact absurd h h10)
      rw [e1] at he
      by_cases h30 : k = 30
      · have h2 := sC_lt he
        rw [h30] at h2
        simp at h2
      · exact Or.inl ⟨he, (aS_n (Or.inl h30)).trans (aS_n (Or.inl hc))⟩
  · by_cases hib : i = 100 + (U 43 0).toNat
    · subst hib
      refine Or.inr ?_
      rw [aS_s, alN_o]
      have n1 : uC U c y n x0 x1 31 (U 43 0).toNat = n := by
        show vS _ 31 _ _ 31 _ = _
        rw [vS_s]
      rw [n1]
      refine hA.cf (fun j hj => ?_)
      rw [alF_o]
      show A 14 (vS (vS _ 32 _ x0) 32 _ x1 32 (2 * (U 43 0).toNat + j)).toNat = _
      rcases (by omega : j = 0 ∨ j = 1) with rfl | rfl
      · rw [vS_i (by omega), Nat.add_zero, vS_s, if_pos rfl]
      · rw [vS_s, if_neg (by decide)]
    · refine Or.inl ?_
      have h2 : i < 6 ∨ (10 ≤ i ∧ i < 100 ∧ (i : Int) - 10 < U 42 0) ∨ (100 ≤ i ∧ (i : Int) - 100 < vS _ 43 0 (U 43 0 + 1) 43 0) := hi
      rw [vS_s] at h2
      refine ⟨by unfold alL; omega, hk _ hib, ?_, fun j hj => ?_⟩
      · by_cases h6 : i < 6
        · rw [alN_lt h6, alN_lt h6]
          rfl
        · by_cases h100 : i < 100
          · obtain ⟨b, rfl⟩ : ∃ b, i = 10 + b := ⟨i - 10, by omega⟩
            rw [alN_b _ (by omega), alN_b _ (by omega)]
            rfl
          · obtain ⟨b, rfl⟩ : ∃ b, i = 100 + b := ⟨i - 100, by omega⟩
            rw [alN_o, alN_o]
            show vS _ 31 _ _ 31 b = _
            rw [vS_i (by omega)]; rfl
      · by_cases h2' : i = 2
        · subst h2'
          have hj2 : (j : Int) < U 11 0 := hj
          show aS (aS A 13 (U 43 0).toNat q) 30 (100 + (U 43 0).toNat) a 13 j = A 13 j
          rw [aS_n (Or.inl (by decide)), aS_n (Or.inr (by omega))]
        · by_cases h100 : i < 100
          · unfold alF
            (repeat' split) <;> first | rfl | exact absurd (by assumption) h2'
          · obtain ⟨b, rfl⟩ : ∃ b, i = 100 + b := ⟨i - 100, by omega⟩
            rw [alN_o] at hj
            have := g3 b j (by omega) hj
            rw [alF_o, alF_o]
            show A 14 (vS (vS _ 32 _ x0) 32 _ x1 32 (2 * b + j)).toNat = _
            rw [vS_i (by omega), vS_i (by omega)]
            rfl
/-- a train, its list of wagons at a -/
def uTr (U W : gV) (o n : Int) : gV := fun k i => if k = 29 then W k i else vS (vS (vS (vS U 26 (U 45 0).toNat o) 27 (U 45 0).toNat 0) 28 (U 45 0).toNat n) 45 0 (U 45 0 + 1) k i
theorem TD.newT (h : TD EV M A U) {q a : Nat} {o n : Int} {W : gV} (h0 : 0 ≤ U 45 0) (g1 : U 25 0 ≤ U 45 0) (hn : 0 ≤ n) (hM : M q = some ((15, (U 45 0).toNat), .inr (18, [.ref a, .int (iI o), .int (iI 0)]))) (hA : gLk M (15 + (U 45 0).toNat) a n.toNat (fun j => A 11 (W 29 (6 * (U 45 0).toNat + j)).toNat))
    (g2 : ∀ r j : Nat, (r : Int) < U 45 0 → (j : Int) < U 28 r → W 29 (6 * r + j) = U 29 (6 * r + j)) : TD EV M (aS (aS A 15 (U 45 0).toNat q) 24 (15 + (U 45 0).toNat) a) (uTr U W o n) := by
  have n45 : uTr U W o n 45 0 = U 45 0 + 1 := by
    show vS (vS (vS (vS U 26 (U 45 0).toNat o) 27 (U 45 0).toNat 0) 28 (U 45 0).toNat n) 45 0 (U 45 0 + 1) 45 0 = _
    rw [vS_s]
  refine h.take (fun t e he => ?_) (fun i hi => Or.inl ⟨hi, rfl, ?_, fun j hj => ?_⟩) (fun i hi => ?_)
  · obtain ⟨k, j⟩ := t
    by_cases hc : k = 15
    · subst hc
      by_cases hj : j = (U 45 0).toNat
      · subst hj
        refine Or.inr ?_
        have e1 : sC EV (aS (aS A 15 (U 45 0).toNat q) 24 (15 + (U 45 0).toNat) a) (uTr U W o n) (15, (U 45 0).toNat) = some (.inr (18, [.ref a, .int (iI o), .int (iI 0)])) := by
          rw [sC_15 (by rw [n45]; omega)]
          have n1 : uTr U W o n 26 (U 45 0).toNat = o := by
            show vS U 26 _ _ 26 _ = _
            rw [vS_s]
          have n2 : uTr U W o n 27 (U 45 0).toNat = 0 := by
            show vS _ 27 _ _ 27 _ = _
            rw [vS_s]
          rw [n1, n2, aS_s]
        rw [e1] at he
        cases he
        rw [aS_n (Or.inl (by show ¬ (15 : Nat) = 24; decide)), aS_s]
        exact hM
      · refine Or.inl ?_
        by_cases hlt : (j : Int) < U 45 0
        · rw [sC_15 (by rw [n45]; omega)] at he
          have n1 : uTr U W o n 26 j = U 26 j := by
            show vS U 26 _ _ 26 _ = _
            rw [vS_i hj]
          have n2 : uTr U W o n 27 j = U 27 j := by
            show vS _ 27 _ _ 27 _ = _
            rw [vS_i hj]; rfl
          rw [n1, n2, aS_n (Or.inr (by omega)), show aS A 15 (U 45 0).toNat q 24 (15 + j) = A 24 (15 + j) from rfl] at he
          exact ⟨(sC_15 hlt).trans he, (aS_n (Or.inl (by show ¬ (15 : Nat) = 24; decide))).trans (aS_n (Or.inr hj))⟩
        · have e1 : sC EV (aS (aS A 15 (U 45 0).toNat q) 24 (15 + (U 45 0).toNat) a) (uTr U W o n) (15, j) = none := if_neg (by show ¬ (j : Int) < _; rw [n45]; omega)
          rw [e1] at he
          cases he
    · have e1 : sC EV (aS (aS A 15 (U 45 0).toNat q) 24 (15 + (U 45 0).toNat) a) (uTr U W o n) (k, j) = sC EV A U (k, j) := by
        unfold sC
        split <;> first | rfl | (rename_i h; exact absurd h hc)
      rw [e1] at he
      by_cases h24 : k = 24
      · have h2 := sC_lt he
        rw [h24] at h2
        simp at h2
      · exact Or.inl ⟨he, (aS_n (Or.inl h24)).trans (aS_n (Or.inl hc))⟩
  · unfold alN
    (repeat' split) <;> rfl
  · by_cases h4 : i = 4
    · subst h4
      have hj2 : (j : Int) < U 25 0 := hj
      show aS (aS A 15 (U 45 0).toNat q) 24 (15 + (U 45 0).toNat) a 15 j = A 15 j
      rw [aS_n (Or.inl (by decide)), aS_n (Or.inr (by omega))]
    · by_cases h00 : i = 0
      · subst h00
        have hj2 : (j : Int) < 15 := hj
        show aS (aS A 15 (U 45 0).toNat q) 24 (15 + (U 45 0).toNat) a 24 j = A 24 j
        rw [aS_n (Or.inr (by omega)), aS_n (Or.inl (by decide))]
      · unfold alF
        (repeat' split) <;> first | rfl | exact absurd (by assumption) h4 | exact absurd (by assumption) h00
  · by_cases hib : i = 15 + (U 45 0).toNat
    · subst hib
      refine Or.inr ?_
      rw [aS_s, llN_r]
      have n1 : uTr U W o n 28 (U 45 0).toNat = n := by
        show vS _ 28 _ _ 28 _ = _
        rw [vS_s]
      rw [n1]
      refine hA.cf (fun j hj => ?_)
      rw [llF_r]
      rfl
    · refine Or.inl ?_
      have h2 : i < 15 ∨ (i : Int) - 15 < uTr U W o n 45 0 := hi
      rw [n45] at h2
      refine ⟨by unfold llL; omega, (aS_n (Or.inr hib)).trans rfl, ?_, fun j hj => ?_⟩
      · by_cases h15 : i < 15
        · rw [llN_t h15, llN_t h15]; rfl
        · obtain ⟨r, rfl⟩ : ∃ r, i = 15 + r := ⟨i - 15, by omega⟩
          rw [llN_r, llN_r]
          show vS _ 28 _ _ 28 r = _
          rw [vS_i (by omega)]; rfl
      · by_cases h15 : i < 15
        · rw [llF_t h15, llF_t h15]; rfl
        · obtain ⟨r, rfl⟩ : ∃ r, i = 15 + r := ⟨i - 15, by omega⟩
          rw [llN_r] at hj
          rw [llF_r, llF_r]
          show A 11 (W 29 (6 * r + j)).toNat = _
          rw [g2 r j (by omega) hj]
end
