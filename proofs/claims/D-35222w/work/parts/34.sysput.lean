/-! THE SYSTEM: reading and writing single cells -/
section
variable {EV : gEV} {A : gAd} {U : gV}
theorem sC_10 : sC EV A U (10, 0) = some (.inr (0, [.ref (A 30 0), .ref (A 30 1), .ref (A 18 0), .ref (A 20 0), .ref (A 19 0), .ref (A 30 2), .ref (A 30 3), .ref (A 30 4), .ref (A 30 5), .int (iI (U 12 0)), .int (iI (U 1 0))])) := rfl
theorem sC_11 {w : Nat} (h : (w : Int) < U 41 0) : sC EV A U (11, w) = some (.inr (7, [.int (iI (w : Int)), .int (iI (U 3 w)), .int (iI (U 4 w)), rfA A 12 (U 5 w)])) := if_pos h
theorem sC_12 {b : Nat} (h : (b : Int) < U 42 0) : sC EV A U (12, b) = some (.inr (16, [.int (iI (b : Int)), .int (iI (U 20 b)), .int (iI (U 21 b)), .int (iI (U 19 b)), .ref (A 30 (10 + b)), .ref (EV.2.2.2 (10 + (U 18 b).toNat)), .int (iI (U 22 b))])) := if_pos h
theorem sC_13 {c : Nat} (h : (c : Int) < U 43 0) : sC EV A U (13, c) = some (.inr (15, [.int (iI (c : Int)), .int (iI (U 13 c)), .int (iI (U 14 c)), .ref (A 30 (100 + c)), rfA A 12 (U 16 c), .int (iI (U 15 c))])) := if_pos h
theorem sC_14 {k : Nat} (h : k < 6) : sC EV A U (14, k) = some (.inr (5, [rfA A 13 (U 9 k), .int (iI (U 30 k))])) := if_pos h
theorem sC_15 {r : Nat} (h : (r : Int) < U 45 0) : sC EV A U (15, r) = some (.inr (18, [.ref (A 24 (15 + r)), .int (iI (U 26 r)), .int (iI (U 27 r))])) := if_pos h
theorem sC_16 {e : Nat} (h : (e : Int) < U 46 0) : sC EV A U (16, e) = some (sEv U e) := if_pos h
theorem sC_17 {f : Nat} (h : f < 4) : sC EV A U (17, f) = some (.inl (EV.2.1 1, 4, .inl (fun j => if j < 4 then iI (U 8 (4 * f + j)) else 0))) := if_pos h
theorem sC_18 : sC EV A U (18, 0) = some (.inl (EV.2.1 6, 4, refs (fun j => if j < 4 then some (A 17 j) else none))) := rfl
theorem sC_19 : sC EV A U (19, 0) = some (.inl (EV.2.1 0, 3, .inl (fun j => iI (U 10 j)))) := rfl
theorem sC_22 {i : Nat} (h : i < 3) : sC EV A U (22, i) = some (.inl (EV.2.1 3, 2, refs (fun j => if j < 2 then some (A 14 (2 * i + j)) else none))) := if_pos h

theorem sO_1 {x : Int} : ∀ t, t ≠ (10, 0) → sC EV A (vS U 1 0 x) t = sC EV A U t := by
  intro t ht
  obtain ⟨c, j⟩ := t
  unfold sC
  split <;> first | rfl | skip
  all_goals
    rename_i h
    have hc : c = 10 := h
    have hj : ¬ j = 0 := fun e => ht (by rw [hc, e])
    simp [vS, hj]
theorem sO_12 {x : Int} : ∀ t, t ≠ (10, 0) → sC EV A (vS U 12 0 x) t = sC EV A U t := by
  intro t ht
  obtain ⟨c, j⟩ := t
  unfold sC
  split <;> first | rfl | skip
  all_goals
    rename_i h
    have hc : c = 10 := h
    have hj : ¬ j = 0 := fun e => ht (by rw [hc, e])
    simp [vS, hj]
theorem sO_3 {i : Nat} {x : Int} : ∀ t, t ≠ (11, i) → sC EV A (vS U 3 i x) t = sC EV A U t := by
  intro t ht
  obtain ⟨c, j⟩ := t
  unfold sC
  split <;> first | rfl | skip
  all_goals
    rename_i h
    have hc : c = 11 := h
    have hj : ¬ j = i := fun e => ht (by rw [hc, e])
    simp [vS, hj]
theorem sO_4 {i : Nat} {x : Int} : ∀ t, t ≠ (11, i) → sC EV A (vS U 4 i x) t = sC EV A U t := by
  intro t ht
  obtain ⟨c, j⟩ := t
  unfold sC
  split <;> first | rfl | skip
  all_goals
    rename_i h
    have hc : c = 11 := h
    have hj : ¬ j = i := fun e => ht (by rw [hc, e])
    simp [vS, hj]
theorem sO_5 {i : Nat} {x : Int} : ∀ t, t ≠ (11, i) → sC EV A (vS U 5 i x) t = sC EV A U t := by
  intro t ht
  obtain ⟨c, j⟩ := t
  unfold sC
  split <;> first | rfl | skip
  all_goals
    rename_i h
    have hc : c = 11 := h
    have hj : ¬ j = i := fun e => ht (by rw [hc, e])
    simp [vS, hj]
theorem sO_18 {i : Nat} {x : Int} : ∀ t, t ≠ (12, i) → sC EV A (vS U 18 i x) t = sC EV A U t := by
  intro t ht
  obtain ⟨c, j⟩ := t
  unfold sC
  split <;> first | rfl | skip
  all_goals
    rename_i h
    have hc : c = 12 := h
    have hj : ¬ j = i := fun e => ht (by rw [hc, e])
    simp [vS, hj]
theorem sO_22 {i : Nat} {x : Int} : ∀ t, t ≠ (12, i) → sC EV A (vS U 22 i x) t = sC EV A U t := by
  intro t ht
  obtain ⟨c, j⟩ := t
  unfold sC
  split <;> first | rfl | skip
  all_goals
    rename_i h
    have hc : c = 12 := h
    have hj : ¬ j = i := fun e => ht (by rw [hc, e])
    simp [vS, hj]
theorem sO_16 {i : Nat} {x : Int} : ∀ t, t ≠ (13, i) → sC EV A (vS U 16 i x) t = sC EV A U t := by
  intro t ht
  obtain ⟨c, j⟩ := t
  unfold sC
  split <;> first | rfl | skip
  all_goals
    rename_i h
    have hc : c = 13 := h
    have hj : ¬ j = i := fun e => ht (by rw [hc, e])
    simp [vS, hj]
theorem sO_15 {i : Nat} {x : Int} : ∀ t, t ≠ (13, i) → sC EV A (vS U 15 i x) t = sC EV A U t := by
  intro t ht
  obtain ⟨c, j⟩ := t
  unfold sC
  split <;> first | rfl | skip
  all_goals
    rename_i h
    have hc : c = 13 := h
    have hj : ¬ j = i := fun e => ht (by rw [hc, e])
    simp [vS, hj]
theorem sO_9 {i : Nat} {x : Int} : ∀ t, t ≠ (14, i) → sC EV A (vS U 9 i x) t = sC EV A U t := by
  intro t ht
  obtain ⟨c, j⟩ := t
  unfold sC
  split <;> first | rfl | skip
  all_goals
    rename_i h
    have hc : c = 14 := h
    have hj : ¬ j = i := fun e => ht (by rw [hc, e])
    simp [vS, hj]
theorem sO_30 {i : Nat} {x : Int} : ∀ t, t ≠ (14, i) → sC EV A (vS U 30 i x) t = sC EV A U t := by
  intro t ht
  obtain ⟨c, j⟩ := t
  unfold sC
  split <;> first | rfl | skip
  all_goals
    rename_i h
    have hc : c = 14 := h
    have hj : ¬ j = i := fun e => ht (by rw [hc, e])
    simp [vS, hj]
theorem sO_27 {i : Nat} {x : Int} : ∀ t, t ≠ (15, i) → sC EV A (vS U 27 i x) t = sC EV A U t := by
  intro t ht
  obtain ⟨c, j⟩ := t
  unfold sC
  split <;> first | rfl | skip
  all_goals
    rename_i h
    have hc : c = 15 := h
    have hj : ¬ j = i := fun e => ht (by rw [hc, e])
    simp [vS, hj]
theorem sO_8 {f i : Nat} (hi : i < 4) {x : Int} : ∀ t, t ≠ (17, f) → sC EV A (vS U 8 (4 * f + i) x) t = sC EV A U t := by
  intro t ht
  obtain ⟨c, j⟩ := t
  unfold sC
  split <;> first | rfl | skip
  all_goals
    rename_i h
    have hc : c = 17 := h
    have hj : ¬ j = f := fun e => ht (by rw [hc, e])
    have e9 : (fun q : Nat => if q < 4 then iI (vS U 8 (4 * f + i) x 8 (4 * j + q)) else 0) = fun q => if q < 4 then iI (U 8 (4 * j + q)) else 0 := by
      funext q
      by_cases hq : q < 4
      · rw [if_pos hq, if_pos hq, vS_i (by omega)]
      · rw [if_neg hq, if_neg hq]
    show (if j < 4 then some (Sum.inl (EV.2.1 1, 4, Sum.inl (fun q : Nat => if q < 4 then iI (vS U 8 (4 * f + i) x 8 (4 * j + q)) else 0))) else none) = _
    rw [e9]
theorem sO_10 {i : Nat} {x : Int} : ∀ t, t ≠ (19, 0) → sC EV A (vS U 10 i x) t = sC EV A U t := by
  intro t ht
  obtain ⟨c, j⟩ := t
  unfold sC
  split <;> first | rfl | skip
  all_goals
    rename_i h
    have hc : c = 19 := h
    have hj : ¬ j = 0 := fun e => ht (by rw [hc, e])
    simp [hj]
end
