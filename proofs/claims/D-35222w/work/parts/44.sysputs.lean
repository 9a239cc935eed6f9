/-! THE SYSTEM: writes to fields, and lists that grow by one thing -/
theorem rf_n (A : gAd) (c : Nat) (x : Int) (n : String) : narrow (.object n) (rfA A c x) = rfA A c x := by
  unfold rfA; split <;> rfl
theorem rf_f (A : gAd) (c : Nat) (x : Int) (n : String) : fits (.object n) (rfA A c x) = true := by
  unfold rfA; split <;> rfl
section GT
variable {z : gZ} {S : gS} {EV : gEV} {Q : State → Prop} {M0 : gM} {T : gTag → Prop} {A : gAd} {U : gV} {L : gLL} {k n pc idx : Nat} {ls : List (Option Value)} {st : List Value}
theorem t_pu1 (X : CX z S EV) {x : Int} (hT : S.2.2.2.2.1 pc = some (.putfield idx, 3)) (F : gFld S.2.1 idx 0 10 .int 0) (hTt : T (10, 0)) (hLt : ∀ x ∈ L, ¬ x.2.1 = (10, 0)) (kk : gTd z S EV Q T M0 A (vS U 1 0 x) L k n (pc + 3) ls st) :
    gTd z S EV Q T M0 A U L k n pc ls (.int (iI x) :: .ref (A 10 0) :: st) :=
  t_put X (10, 0) (U' := vS U 1 0 x) (fs' := [.ref (A 30 0), .ref (A 30 1), .ref (A 18 0), .ref (A 20 0), .ref (A 19 0), .ref (A 30 2), .ref (A 30 3), .ref (A 30 4), .ref (A 30 5), .int (iI (U 12 0)), .int (iI x)]) hT F sC_10 rfl rfl (Nat.le_of_ble_eq_true rfl) (by rw [sC_10 (U := vS U 1 0 x), vS_s]; rfl) rfl sO_1 ⟨fun _ h => h, fun _ => rfl, fun _ _ => rfl, fun _ h => h, fun _ => rfl, fun _ _ => rfl⟩ hTt hLt kk
theorem t_pu12 (X : CX z S EV) {x : Int} (hT : S.2.2.2.2.1 pc = some (.putfield idx, 3)) (F : gFld S.2.1 idx 0 9 .int 0) (hTt : T (10, 0)) (hLt : ∀ x ∈ L, ¬ x.2.1 = (10, 0)) (kk : gTd z S EV Q T M0 A (vS U 12 0 x) L k n (pc + 3) ls st) :
    gTd z S EV Q T M0 A U L k n pc ls (.int (iI x) :: .ref (A 10 0) :: st) :=
  t_put X (10, 0) (U' := vS U 12 0 x) (fs' := [.ref (A 30 0), .ref (A 30 1), .ref (A 18 0), .ref (A 20 0), .ref (A 19 0), .ref (A 30 2), .ref (A 30 3), .ref (A 30 4), .ref (A 30 5), .int (iI x), .int (iI (U 1 0))]) hT F sC_10 rfl rfl (Nat.le_of_ble_eq_true rfl) (by rw [sC_10 (U := vS U 12 0 x), vS_s]; rfl) rfl sO_12 ⟨fun _ h => h, fun _ => rfl, fun _ _ => rfl, fun _ h => h, fun _ => rfl, fun _ _ => rfl⟩ hTt hLt kk
theorem t_pu3 (X : CX z S EV) {i : Nat} {x : Int} (hT : S.2.2.2.2.1 pc = some (.putfield idx, 3)) (F : gFld S.2.1 idx 7 1 .int 0) (h : (i : Int) < U 41 0) (hTt : T (11, i)) (hLt : ∀ x ∈ L, ¬ x.2.1 = (11, i)) (kk : gTd z S EV Q T M0 A (vS U 3 i x) L k n (pc + 3) ls st) :
    gTd z S EV Q T M0 A U L k n pc ls (.int (iI x) :: .ref (A 11 i) :: st) :=
  t_put X (11, i) (U' := vS U 3 i x) (fs' := [.int (iI (i : Int)), .int (iI x), .int (iI (U 4 i)), rfA A 12 (U 5 i)]) hT F (sC_11 h) rfl rfl (Nat.le_of_ble_eq_true rfl) (by rw [sC_11 (U := vS U 3 i x) h, vS_s]; rfl) rfl sO_3 ⟨fun _ h => h, fun _ => rfl, fun _ _ => rfl, fun _ h => h, fun _ => rfl, fun _ _ => rfl⟩ hTt hLt kk
theorem t_pu4 (X : CX z S EV) {i : Nat} {x : Int} (hT : S.2.2.2.2.1 pc = some (.putfield idx, 3)) (F : gFld S.2.1 idx 7 2 .int 0) (h : (i : Int) < U 41 0) (hTt : T (11, i)) (hLt : ∀ x ∈ L, ¬ x.2.1 = (11, i)) (kk : gTd z S EV Q T M0 A (vS U 4 i x) L k n (pc + 3) ls st) :
    gTd z S EV Q T M0 A U L k n pc ls (.int (iI x) :: .ref (A 11 i) :: st) :=
  t_put X (11, i) (U' := vS U 4 i x) (fs' := [.int (iI (i : Int)), .int (iI (U 3 i)), .int (iI x), rfA A 12 (U 5 i)]) hT F (sC_11 h) rfl rfl (Nat.le_of_ble_eq_true rfl) (by rw [sC_11 (U := vS U 4 i x) h, vS_s]; rfl) rfl sO_4 ⟨fun _ h => h, fun _ => rfl, fun _ _ => rfl, fun _ h => h, fun _ => rfl, fun _ _ => rfl⟩ hTt hLt kk
theorem t_pu5 (X : CX z S EV) {i : Nat} {x : Int} (hT : S.2.2.2.2.1 pc = some (.putfield idx, 3)) (F : gFld S.2.1 idx 7 3 (.object "TrunkYards$Booking") 0) (h : (i : Int) < U 41 0) (hTt : T (11, i)) (hLt : ∀ x ∈ L, ¬ x.2.1 = (11, i)) (kk : gTd z S EV Q T M0 A (vS U 5 i x) L k n (pc + 3) ls st) :
    gTd z S EV Q T M0 A U L k n pc ls (rfA A 12 x :: .ref (A 11 i) :: st) :=
  t_put X (11, i) (U' := vS U 5 i x) (fs' := [.int (iI (i : Int)), .int (iI (U 3 i)), .int (iI (U 4 i)), rfA A 12 x]) hT F (sC_11 h) (rf_n _ _ _ _) (rf_f _ _ _ _) (Nat.le_of_ble_eq_true rfl) (by rw [sC_11 (U := vS U 5 i x) h, vS_s]; rfl) rfl sO_5 ⟨fun _ h => h, fun _ => rfl, fun _ _ => rfl, fun _ h => h, fun _ => rfl, fun _ _ => rfl⟩ hTt hLt kk
theorem t_pu18 (X : CX z S EV) {i : Nat} {x : Nat} (hT : S.2.2.2.2.1 pc = some (.putfield idx, 3)) (F : gFld S.2.1 idx 16 5 (.object "TrunkYards$State") 0) (h : (i : Int) < U 42 0) (hTt : T (12, i)) (hLt : ∀ x ∈ L, ¬ x.2.1 = (12, i)) (kk : gTd z S EV Q T M0 A (vS U 18 i (x : Int)) L k n (pc + 3) ls st) :
    gTd z S EV Q T M0 A U L k n pc ls (.ref (EV.2.2.2 (10 + x)) :: .ref (A 12 i) :: st) :=
  t_put X (12, i) (U' := vS U 18 i (x : Int)) (fs' := [.int (iI (i : Int)), .int (iI (U 20 i)), .int (iI (U 21 i)), .int (iI (U 19 i)), .ref (A 30 (10 + i)), .ref (EV.2.2.2 (10 + x)), .int (iI (U 22 i))]) hT F (sC_12 h) rfl rfl (Nat.le_of_ble_eq_true rfl) (by rw [sC_12 (U := vS U 18 i (x : Int)) h, vS_s]; rfl) rfl sO_18 ⟨fun _ h => h, fun _ => rfl, fun _ _ => rfl, fun _ h => h, fun _ => rfl, fun _ _ => rfl⟩ hTt hLt kk
theorem t_pu22 (X : CX z S EV) {i : Nat} {x : Int} (hT : S.2.2.2.2.1 pc = some (.putfield idx, 3)) (F : gFld S.2.1 idx 16 6 .int 0) (h : (i : Int) < U 42 0) (hTt : T (12, i)) (hLt : ∀ x ∈ L, ¬ x.2.1 = (12, i)) (kk : gTd z S EV Q T M0 A (vS U 22 i x) L k n (pc + 3) ls st) :
    gTd z S EV Q T M0 A U L k n pc ls (.int (iI x) :: .ref (A 12 i) :: st) :=
  t_put X (12, i) (U' := vS U 22 i x) (fs' := [.int (iI (i : Int)), .int (iI (U 20 i)), .int (iI (U 21 i)), .int (iI (U 19 i)), .ref (A 30 (10 + i)), .ref (EV.2.2.2 (10 + (U 18 i).toNat)), .int (iI x)]) hT F (sC_12 h) rfl rfl (Nat.le_of_ble_eq_true rfl) (by rw [sC_12 (U := vS U 22 i x) h, vS_s]; rfl) rfl sO_22 ⟨fun _ h => h, fun _ => rfl, fun _ _ => rfl, fun _ h => h, fun _ => rfl, fun _ _ => rfl⟩ hTt hLt kk
theorem t_pu16 (X : CX z S EV) {i : Nat} {x : Int} (hT : S.2.2.2.2.1 pc = some (.putfield idx, 3)) (F : gFld S.2.1 idx 15 4 (.object "TrunkYards$Booking") 0) (h : (i : Int) < U 43 0) (hTt : T (13, i)) (hLt : ∀ x ∈ L, ¬ x.2.1 = (13, i)) (kk : gTd z S EV Q T M0 A (vS U 16 i x) L k n (pc + 3) ls st) :
    gTd z S EV Q T M0 A U L k n pc ls (rfA A 12 x :: .ref (A 13 i) :: st) :=
  t_put X (13, i) (U' := vS U 16 i x) (fs' := [.int (iI (i : Int)), .int (iI (U 13 i)), .int (iI (U 14 i)), .ref (A 30 (100 + i)), rfA A 12 x, .int (iI (U 15 i))]) hT F (sC_13 h) (rf_n _ _ _ _) (rf_f _ _ _ _) (Nat.le_of_ble_eq_true rfl) (by rw [sC_13 (U := vS U 16 i x) h, vS_s]; rfl) rfl sO_16 ⟨fun _ h => h, fun _ => rfl, fun _ _ => rfl, fun _ h => h, fun _ => rfl, fun _ _ => rfl⟩ hTt hLt kk
theorem t_pu15 (X : CX z S EV) {i : Nat} {x : Int} (hb : x = 0 ∨ x = 1) (hT : S.2.2.2.2.1 pc = some (.putfield idx, 3)) (F : gFld S.2.1 idx 15 5 .boolean 0) (h : (i : Int) < U 43 0) (hTt : T (13, i)) (hLt : ∀ x ∈ L, ¬ x.2.1 = (13, i)) (kk : gTd z S EV Q T M0 A (vS U 15 i x) L k n (pc + 3) ls st) :
    gTd z S EV Q T M0 A U L k n pc ls (.int (iI x) :: .ref (A 13 i) :: st) :=
  t_put X (13, i) (U' := vS U 15 i x) (fs' := [.int (iI (i : Int)), .int (iI (U 13 i)), .int (iI (U 14 i)), .ref (A 30 (100 + i)), rfA A 12 (U 16 i), .int (iI x)]) hT F (sC_13 h) (bI_n2 hb) (by rcases hb with rfl | rfl <;> rfl) (Nat.le_of_ble_eq_true rfl) (by rw [sC_13 (U := vS U 15 i x) h, vS_s]; rfl) rfl sO_15 ⟨fun _ h => h, fun _ => rfl, fun _ _ => rfl, fun _ h => h, fun _ => rfl, fun _ _ => rfl⟩ hTt hLt kk
theorem t_pu9 (X : CX z S EV) {i : Nat} {x : Int} (hT : S.2.2.2.2.1 pc = some (.putfield idx, 3)) (F : gFld S.2.1 idx 5 0 (.object "TrunkYards$Call") 0) (h : i < 6) (hTt : T (14, i)) (hLt : ∀ x ∈ L, ¬ x.2.1 = (14, i)) (kk : gTd z S EV Q T M0 A (vS U 9 i x) L k n (pc + 3) ls st) :
    gTd z S EV Q T M0 A U L k n pc ls (rfA A 13 x :: .ref (A 14 i) :: st) :=
  t_put X (14, i) (U' := vS U 9 i x) (fs' := [rfA A 13 x, .int (iI (U 30 i))]) hT F (sC_14 h) (rf_n _ _ _ _) (rf_f _ _ _ _) (Nat.le_of_ble_eq_true rfl) (by rw [sC_14 (U := vS U 9 i x) h, vS_s]; rfl) rfl sO_9 ⟨fun _ h => h, fun _ => rfl, fun _ _ => rfl, fun _ h => h, fun _ => rfl, fun _ _ => rfl⟩ hTt hLt kk
theorem t_pu30 (X : CX z S EV) {i : Nat} {x : Int} (hb : x = 0 ∨ x = 1) (hT : S.2.2.2.2.1 pc = some (.putfield idx, 3)) (F : gFld S.2.1 idx 5 1 .boolean 0) (h : i < 6) (hTt : T (14, i)) (hLt : ∀ x ∈ L, ¬ x.2.1 = (14, i)) (kk : gTd z S EV Q T M0 A (vS U 30 i x) L k n (pc + 3) ls st) :
    gTd z S EV Q T M0 A U L k n pc ls (.int (iI x) :: .ref (A 14 i) :: st) :=
  t_put X (14, i) (U' := vS U 30 i x) (fs' := [rfA A 13 (U 9 i), .int (iI x)]) hT F (sC_14 h) (bI_n2 hb) (by rcases hb with rfl | rfl <;> rfl) (Nat.le_of_ble_eq_true rfl) (by rw [sC_14 (U := vS U 30 i x) h, vS_s]; rfl) rfl sO_30 ⟨fun _ h => h, fun _ => rfl, fun _ _ => rfl, fun _ h => h, fun _ => rfl, fun _ _ => rfl⟩ hTt hLt kk
theorem t_pu27 (X : CX z S EV) {i : Nat} {x : Int} (hb : x = 0 ∨ x = 1) (hT : S.2.2.2.2.1 pc = some (.putfield idx, 3)) (F : gFld S.2.1 idx 18 2 .boolean 0) (h : (i : Int) < U 45 0) (hTt : T (15, i)) (hLt : ∀ x ∈ L, ¬ x.2.1 = (15, i)) (kk : gTd z S EV Q T M0 A (vS U 27 i x) L k n (pc + 3) ls st) :
    gTd z S EV Q T M0 A U L k n pc ls (.int (iI x) :: .ref (A 15 i) :: st) :=
  t_put X (15, i) (U' := vS U 27 i x) (fs' := [.ref (A 24 (15 + i)), .int (iI (U 26 i)), .int (iI x)]) hT F (sC_15 h) (bI_n2 hb) (by rcases hb with rfl | rfl <;> rfl) (Nat.le_of_ble_eq_true rfl) (by rw [sC_15 (U := vS U 27 i x) h, vS_s]; rfl) rfl sO_27 ⟨fun _ h => h, fun _ => rfl, fun _ _ => rfl, fun _ h => h, fun _ => rfl, fun _ _ => rfl⟩ hTt hLt kk
theorem t_pu10 (X : CX z S EV) {i x : Int} (hT : S.2.2.2.2.1 pc = some (.iastore, 1)) (hi : 0 ≤ i ∧ i < 3) (hTt : T (19, 0)) (hLt : ∀ x ∈ L, ¬ x.2.1 = (19, 0)) (kk : gTd z S EV Q T M0 A (vS U 10 i.toNat x) L k n (pc + 1) ls st) :
    gTd z S EV Q T M0 A U L k n pc ls (.int (iI x) :: .int (iI i) :: .ref (A 19 0) :: st) := by
  refine t_iast X (19, 0) (U' := vS U 10 i.toNat x) (f' := fun j => iI (vS U 10 i.toNat x 10 j)) hT sC_19 (gIx_i hi (by omega)) rfl ?_ sO_10 ⟨fun _ h => h, fun _ => rfl, fun _ _ => rfl, fun _ h => h, fun _ => rfl, fun _ _ => rfl⟩ hTt hLt kk
  funext j
  by_cases hj : j = i.toNat
  · subst hj; simp [upd, vS]
  · simp [upd, vS, hj]
theorem t_pu8 (X : CX z S EV) {f i x : Int} (hb : x = 0 ∨ x = 1) (hT : S.2.2.2.2.1 pc = some (.bastore, 1)) (hf : 0 ≤ f ∧ f < 4) (hi : 0 ≤ i ∧ i < 4) (hTt : T (17, f.toNat)) (hLt : ∀ x ∈ L, ¬ x.2.1 = (17, f.toNat)) (kk : gTd z S EV Q T M0 A (vS U 8 (4 * f + i).toNat x) L k n (pc + 1) ls st) :
    gTd z S EV Q T M0 A U L k n pc ls (.int (iI x) :: .int (iI i) :: .ref (A 17 f.toNat) :: st) := by
  have e0 : (4 * f + i).toNat = 4 * f.toNat + i.toNat := by omega
  rw [e0] at kk
  refine t_zast X (17, f.toNat) (U' := vS U 8 (4 * f.toNat + i.toNat) x) (f' := fun j => if j < 4 then iI (vS U 8 (4 * f.toNat + i.toNat) x 8 (4 * f.toNat + j)) else 0) hT (sC_17 (by omega)) (gIx_i hi (by omega)) (by rcases hb with rfl | rfl <;> decide) (sC_17 (U := vS U 8 (4 * f.toNat + i.toNat) x) (by omega)) ?_ (sO_8 (by omega)) ⟨fun _ h => h, fun _ => rfl, fun _ _ => rfl, fun _ h => h, fun _ => rfl, fun _ _ => rfl⟩ hTt hLt kk
  funext j
  by_cases hj : j = i.toNat
  · subst hj
    simp only [upd, if_pos, if_true, eq_self_iff_true]
    rw [if_pos (by omega), vS_s]
  · by_cases h4 : j < 4
    · simp only [upd, if_neg hj]
      rw [if_pos h4, if_pos h4, vS_i (by omega)]
    · simp only [upd, if_neg hj]
      rw [if_neg h4, if_neg h4]
end GT
section
variable (l : Launch) (EV : gEV) {A : gAd} {U : gV}
theorem tc_add1 (hn : 0 ≤ U 2 0 ∧ U 2 0 ≤ 72) (hc : U 2 0 < U 41 0) {y : Nat} (hy : A 11 (U 2 0).toNat = y) : TC l yJ2_add cJ2_add 2 (some .boolean) 8 1 1000 EV (tAL 1) [.ref (A 30 1), .ref y] A U [] (rV (some (.int (iI 1))) A (vS U 2 0 (U 2 0 + 1)) []) rNo := by
  subst hy
  refine tc_aladd l EV (i := 1) (by unfold alL; omega) hn (fun M h => gOz_11 h (by omega)) (fun M h j hj => gOz_11 (w := j) h (by have : (j : Int) < U 2 0 := hj; omega)) (fun _ => rfl) (fun i' hi' h' => ⟨h', ?_, fun j _ => rfl⟩) rfl (fun j _ => rfl) rfl ⟨fun _ h => h, fun _ => rfl, fun _ _ => rfl⟩
  unfold alN
  by_cases h0 : i' = 0
  · rw [if_pos h0, if_pos h0]
  · rw [if_neg h0, if_neg h0]
    by_cases h1 : i' = 1
    · first | exact absurd h1 hi' | (rw [if_pos h1, if_pos h1]; rfl)
    · rw [if_neg h1, if_neg h1]
      by_cases h2 : i' = 2
      · first | exact absurd h2 hi' | (rw [if_pos h2, if_pos h2]; rfl)
      · rw [if_neg h2, if_neg h2]
        by_cases h3 : i' = 3
        · first | exact absurd h3 hi' | (rw [if_pos h3, if_pos h3]; rfl)
        · rw [if_neg h3, if_neg h3]
          by_cases h4 : i' = 4
          · first | exact absurd h4 hi' | (rw [if_pos h4, if_pos h4]; rfl)
          · rw [if_neg h4, if_neg h4]
            by_cases h5 : i' = 5
            · first | exact absurd h5 hi' | (rw [if_pos h5, if_pos h5]; rfl)
            · rw [if_neg h5, if_neg h5]
              rfl
theorem tc_add2 (hn : 0 ≤ U 11 0 ∧ U 11 0 ≤ 72) (hc : U 11 0 < U 43 0) {y : Nat} (hy : A 13 (U 11 0).toNat = y) : TC l yJ2_add cJ2_add 2 (some .boolean) 8 1 1000 EV (tAL 2) [.ref (A 30 2), .ref y] A U [] (rV (some (.int (iI 1))) A (vS U 11 0 (U 11 0 + 1)) []) rNo := by
  subst hy
  refine tc_aladd l EV (i := 2) (by unfold alL; omega) hn (fun M h => gOz_13 h (by omega)) (fun M h j hj => gOz_13 (w := j) h (by have : (j : Int) < U 11 0 := hj; omega)) (fun _ => rfl) (fun i' hi' h' => ⟨h', ?_, fun j _ => rfl⟩) rfl (fun j _ => rfl) rfl ⟨fun _ h => h, fun _ => rfl, fun _ _ => rfl⟩
  unfold alN
  by_cases h0 : i' = 0
  · rw [if_pos h0, if_pos h0]
  · rw [if_neg h0, if_neg h0]
    by_cases h1 : i' = 1
    · first | exact absurd h1 hi' | (rw [if_pos h1, if_pos h1]; rfl)
    · rw [if_neg h1, if_neg h1]
      by_cases h2 : i' = 2
      · first | exact absurd h2 hi' | (rw [if_pos h2, if_pos h2]; rfl)
      · rw [if_neg h2, if_neg h2]
        by_cases h3 : i' = 3
        · first | exact absurd h3 hi' | (rw [if_pos h3, if_pos h3]; rfl)
        · rw [if_neg h3, if_neg h3]
          by_cases h4 : i' = 4
          · first | exact absurd h4 hi' | (rw [if_pos h4, if_pos h4]; rfl)
          · rw [if_neg h4, if_neg h4]
            by_cases h5 : i' = 5
            · first | exact absurd h5 hi' | (rw [if_pos h5, if_pos h5]; rfl)
            · rw [if_neg h5, if_neg h5]
              rfl
theorem tc_add3 (hn : 0 ≤ U 17 0 ∧ U 17 0 ≤ 72) (hc : U 17 0 < U 42 0) {y : Nat} (hy : A 12 (U 17 0).toNat = y) : TC l yJ2_add cJ2_add 2 (some .boolean) 8 1 1000 EV (tAL 3) [.ref (A 30 3), .ref y] A U [] (rV (some (.int (iI 1))) A (vS U 17 0 (U 17 0 + 1)) []) rNo := by
  subst hy
  refine tc_aladd l EV (i := 3) (by unfold alL; omega) hn (fun M h => gOz_12 h (by omega)) (fun M h j hj => gOz_12 (w := j) h (by have : (j : Int) < U 17 0 := hj; omega)) (fun _ => rfl) (fun i' hi' h' => ⟨h', ?_, fun j _ => rfl⟩) rfl (fun j _ => rfl) rfl ⟨fun _ h => h, fun _ => rfl, fun _ _ => rfl⟩
  unfold alN
  by_cases h0 : i' = 0
  · rw [if_pos h0, if_pos h0]
  · rw [if_neg h0, if_neg h0]
    by_cases h1 : i' = 1
    · first | exact absurd h1 hi' | (rw [if_pos h1, if_pos h1]; rfl)
    · rw [if_neg h1, if_neg h1]
      by_cases h2 : i' = 2
      · first | exact absurd h2 hi' | (rw [if_pos h2, if_pos h2]; rfl)
      · rw [if_neg h2, if_neg h2]
        by_cases h3 : i' = 3
        · first | exact absurd h3 hi' | (rw [if_pos h3, if_pos h3]; rfl)
        · rw [if_neg h3, if_neg h3]
          by_cases h4 : i' = 4
          · first | exact absurd h4 hi' | (rw [if_pos h4, if_pos h4]; rfl)
          · rw [if_neg h4, if_neg h4]
            by_cases h5 : i' = 5
            · first | exact absurd h5 hi' | (rw [if_pos h5, if_pos h5]; rfl)
            · rw [if_neg h5, if_neg h5]
              rfl
theorem tc_add4 (hn : 0 ≤ U 25 0 ∧ U 25 0 ≤ 72) (hc : U 25 0 < U 45 0) {y : Nat} (hy : A 15 (U 25 0).toNat = y) : TC l yJ2_add cJ2_add 2 (some .boolean) 8 1 1000 EV (tAL 4) [.ref (A 30 4), .ref y] A U [] (rV (some (.int (iI 1))) A (vS U 25 0 (U 25 0 + 1)) []) rNo := by
  subst hy
  refine tc_aladd l EV (i := 4) (by unfold alL; omega) hn (fun M h => gOz_15 h (by omega)) (fun M h j hj => gOz_15 (w := j) h (by have : (j : Int) < U 25 0 := hj; omega)) (fun _ => rfl) (fun i' hi' h' => ⟨h', ?_, fun j _ => rfl⟩) rfl (fun j _ => rfl) rfl ⟨fun _ h => h, fun _ => rfl, fun _ _ => rfl⟩
  unfold alN
  by_cases h0 : i' = 0
  · rw [if_pos h0, if_pos h0]
  · rw [if_neg h0, if_neg h0]
    by_cases h1 : i' = 1
    · first | exact absurd h1 hi' | (rw [if_pos h1, if_pos h1]; rfl)
    · rw [if_neg h1, if_neg h1]
      by_cases h2 : i' = 2
      · first | exact absurd h2 hi' | (rw [if_pos h2, if_pos h2]; rfl)
      · rw [if_neg h2, if_neg h2]
        by_cases h3 : i' = 3
        · first | exact absurd h3 hi' | (rw [if_pos h3, if_pos h3]; rfl)
        · rw [if_neg h3, if_neg h3]
          by_cases h4 : i' = 4
          · first | exact absurd h4 hi' | (rw [if_pos h4, if_pos h4]; rfl)
          · rw [if_neg h4, if_neg h4]
            by_cases h5 : i' = 5
            · first | exact absurd h5 hi' | (rw [if_pos h5, if_pos h5]; rfl)
            · rw [if_neg h5, if_neg h5]
              rfl
theorem tc_add5 (hn : 0 ≤ U 33 0 ∧ U 33 0 ≤ 72) (hc : U 33 0 < U 46 0) {y : Nat} (hy : A 16 (U 33 0).toNat = y) : TC l yJ2_add cJ2_add 2 (some .boolean) 8 1 1000 EV (tAL 5) [.ref (A 30 5), .ref y] A U [] (rV (some (.int (iI 1))) A (vS U 33 0 (U 33 0 + 1)) []) rNo := by
  subst hy
  refine tc_aladd l EV (i := 5) (by unfold alL; omega) hn (fun M h => gOz_16 h (by omega)) (fun M h j hj => gOz_16 (w := j) h (by have : (j : Int) < U 33 0 := hj; omega)) (fun _ => rfl) (fun i' hi' h' => ⟨h', ?_, fun j _ => rfl⟩) rfl (fun j _ => rfl) rfl ⟨fun _ h => h, fun _ => rfl, fun _ _ => rfl⟩
  unfold alN
  by_cases h0 : i' = 0
  · rw [if_pos h0, if_pos h0]
  · rw [if_neg h0, if_neg h0]
    by_cases h1 : i' = 1
    · first | exact absurd h1 hi' | (rw [if_pos h1, if_pos h1]; rfl)
    · rw [if_neg h1, if_neg h1]
      by_cases h2 : i' = 2
      · first | exact absurd h2 hi' | (rw [if_pos h2, if_pos h2]; rfl)
      · rw [if_neg h2, if_neg h2]
        by_cases h3 : i' = 3
        · first | exact absurd h3 hi' | (rw [if_pos h3, if_pos h3]; rfl)
        · rw [if_neg h3, if_neg h3]
          by_cases h4 : i' = 4
          · first | exact absurd h4 hi' | (rw [if_pos h4, if_pos h4]; rfl)
          · rw [if_neg h4, if_neg h4]
            by_cases h5 : i' = 5
            · first | exact absurd h5 hi' | (rw [if_pos h5, if_pos h5]; rfl)
            · rw [if_neg h5, if_neg h5]
              rfl
/-- the wagons of a booking -/
def uAdd (U : gV) (b w : Int) : gV := vS (vS U 24 (30 * b + U 23 b.toNat).toNat w) 23 b.toNat (U 23 b.toNat + 1)
theorem tc_addb {b w : Int} (hb : 0 ≤ b ∧ b < U 42 0) (hb9 : U 42 0 ≤ 40) (hm : ∀ j : Int, 0 ≤ j → j < U 42 0 → 0 ≤ U 23 j.toNat ∧ U 23 j.toNat ≤ 30) (hn : U 23 b.toNat < 30) (hw : 0 ≤ w ∧ w < U 41 0) (hr : ∀ k : Int, 0 ≤ k → k < U 23 b.toNat → 0 ≤ U 24 (30 * b + k).toNat ∧ U 24 (30 * b + k).toNat < U 41 0) :
    TC l yJ2_add cJ2_add 2 (some .boolean) 8 1 1000 EV (tAL (10 + b.toNat)) [.ref (A 30 (10 + b.toNat)), .ref (A 11 w.toNat)] A U [] (rV (some (.int (iI 1))) A (uAdd U b w) []) rNo := by
  have hb0 := hm b hb.1 hb.2
  refine tc_aladd l EV (i := 10 + b.toNat) (by unfold alL; omega) (by rw [alN_b _ (by omega)]; omega) (fun M h => gOz_11 h (by omega)) (fun M h j hj => ?_) (fun _ => rfl) (fun i' hi' h' => ?_) ?_ (fun j hj => ?_) ?_ ⟨fun _ h => h, fun _ => rfl, fun _ _ => rfl⟩
  · rw [alN_b _ (by omega)] at hj
    rw [alF_b _ _ (by omega)]
    have h9 := hr j (by omega) hj
    have e9 : (30 * b + (j : Int)).toNat = 30 * b.toNat + j := by omega
    rw [e9] at h9
    exact gOz_11 h (by omega)
  · have h2 : alL U i' := h'
    refine ⟨h', ?_, fun j hj => ?_⟩
    · by_cases hlo : i' < 10
      · have h7 : i' < 6 := by unfold alL at h2; omega
        unfold alN uAdd
        (repeat' split) <;> first | rfl | omega
      · by_cases hhi : i' < 100
        · obtain ⟨c, rfl⟩ : ∃ c, i' = 10 + c := ⟨i' - 10, by omega⟩
          rw [alN_b _ (by omega), alN_b _ (by omega)]
          show vS _ _ _ _ 23 c = _
          rw [vS_i (by omega)]
          rfl
        · obtain ⟨c, rfl⟩ : ∃ c, i' = 100 + c := ⟨i' - 100, by omega⟩
          rw [alN_o, alN_o]
          rfl
    · by_cases hlo : i' < 10
      · have h7 : i' < 6 := by unfold alL at h2; omega
        unfold alF uAdd
        (repeat' split) <;> first | rfl | omega
      · by_cases hhi : i' < 100
        · obtain ⟨c, rfl⟩ : ∃ c, i' = 10 + c := ⟨i' - 10, by omega⟩
          unfold alL at h2
          have h3 := hm c (by omega) (by omega)
          rw [alN_b _ (by omega)] at hj
          rw [alF_b _ _ (by omega), alF_b _ _ (by omega)]
          show A 11 (vS U 24 _ _ 24 (30 * c + j)).toNat = _
          have h4 : U 23 ((c : Int)).toNat = U 23 c := rfl
          rw [vS_i (by omega)]
        · obtain ⟨c, rfl⟩ : ∃ c, i' = 100 + c := ⟨i' - 100, by omega⟩
          unfold alF uAdd
          (repeat' split) <;> first | rfl | omega
  · rw [alN_b _ (by omega), alN_b _ (by omega)]
    show vS _ _ _ _ 23 b.toNat = _
    rw [vS_s]
  · rw [alN_b _ (by omega)] at hj
    rw [alF_b _ _ (by omega), alF_b _ _ (by omega)]
    show A 11 (vS U 24 _ _ 24 (30 * b.toNat + j)).toNat = _
    rw [vS_i (by omega)]
  · rw [alN_b _ (by omega), alF_b _ _ (by omega)]
    show A 11 (vS U 24 _ _ 24 (30 * b.toNat + (U 23 b.toNat).toNat)).toNat = _
    have e9 : (30 * b + U 23 b.toNat).toNat = 30 * b.toNat + (U 23 b.toNat).toNat := by omega
    rw [e9, vS_s]
/-- a track grows -/
def uPut (U : gV) (p w : Int) : gV := vS (vS U 7 (6 * p + U 6 p.toNat).toNat w) 6 p.toNat (U 6 p.toNat + 1)
theorem llF_t {A : gAd} {U : gV} {i j : Nat} (h : i < 15) : llF A U i j = A 11 (U 7 (6 * i + j)).toNat := if_pos h
theorem llF_r {A : gAd} {U : gV} (r j : Nat) : llF A U (15 + r) j = A 11 (U 29 (6 * r + j)).toNat := by
  unfold llF
  rw [if_neg (by omega), show 15 + r - 15 = r by omega]
theorem tc_put {p w : Int} (hp : 0 ≤ p ∧ p < 15) (hn : 0 ≤ U 6 p.toNat ∧ U 6 p.toNat < 6) {y : Nat} (hy : A 11 w.toNat = y) :
    TC l yJ7_addLast cJ7_addLast 2 none 3 1 3 EV (tLL p.toNat) [.ref (A 24 p.toNat), .ref y] A U [] (rV none A (uPut U p w) []) rNo := by
  subst hy
  refine tc_lladd l EV (i := p.toNat) (Or.inl (by omega)) (by rw [llN_t (by omega)]; exact hn) (fun _ => rfl) (fun i' hi' h' => ⟨h', ?_, fun j hj h6 => ?_⟩) ?_ (fun j hj => ?_) ?_ ⟨fun _ h => h, fun _ => rfl, fun _ _ => rfl⟩
  · by_cases h15 : i' < 15
    · rw [llN_t h15, llN_t h15]
      show vS _ _ _ _ 6 i' = _
      rw [vS_i hi']
      rfl
    · obtain ⟨r, rfl⟩ : ∃ r, i' = 15 + r := ⟨i' - 15, by omega⟩
      rw [llN_r, llN_r]
      rfl
  · by_cases h15 : i' < 15
    · rw [llF_t h15, llF_t h15]
      show A 11 (vS U 7 _ _ 7 (6 * i' + j)).toNat = _
      rw [vS_i (by omega)]
    · obtain ⟨r, rfl⟩ : ∃ r, i' = 15 + r := ⟨i' - 15, by omega⟩
      rw [llF_r, llF_r]
      rfl
  · rw [llN_t (by omega), llN_t (by omega)]
    show vS _ _ _ _ 6 p.toNat = _
    rw [vS_s]
  · rw [llN_t (by omega)] at hj
    rw [llF_t (by omega), llF_t (by omega)]
    show A 11 (vS U 7 _ _ 7 (6 * p.toNat + j)).toNat = _
    rw [vS_i (by omega)]
  · rw [llN_t (by omega), llF_t (by omega)]
    show A 11 (vS U 7 _ _ 7 (6 * p.toNat + (U 6 p.toNat).toNat)).toNat = _
    have e9 : (6 * p + U 6 p.toNat).toNat = 6 * p.toNat + (U 6 p.toNat).toNat := by omega
    rw [e9, vS_s]
theorem tc_pull {p : Int} (hp : 0 ≤ p ∧ p < 15) (hn : 0 < U 6 p.toNat) :
    TC l yJ7_removeLast cJ7_removeLast 2 (some (.object "java/lang/Object")) 2 0 0 EV (tLL p.toNat) [.ref (A 24 p.toNat)] A U [] (rV (some (.ref (A 11 (U 7 (6 * p + (U 6 p.toNat - 1)).toNat).toNat))) A (vS U 6 p.toNat (U 6 p.toNat - 1)) []) rNo := by
  have h9 := tc_llremove l EV (A := A) (U := U) (U' := vS U 6 p.toNat (U 6 p.toNat - 1)) (i := p.toNat) (Or.inl (by omega)) (by rw [llN_t (by omega)]; exact hn) (fun _ => rfl) (fun i' hi' h' => ⟨h', ?_, fun j hj h6 => rfl⟩) ?_ (fun j hj => rfl) ⟨fun _ h => h, fun _ => rfl, fun _ _ => rfl⟩
  · rw [llN_t (by omega), llF_t (by omega), show 6 * p.toNat + ((U 6 p.toNat).toNat - 1) = (6 * p + (U 6 p.toNat - 1)).toNat by omega] at h9
    exact h9
  · by_cases h15 : i' < 15
    · rw [llN_t h15, llN_t h15]
      show vS _ _ _ _ 6 i' = _
      rw [vS_i hi']
    · obtain ⟨r, rfl⟩ : ∃ r, i' = 15 + r := ⟨i' - 15, by omega⟩
      rw [llN_r, llN_r]
      rfl
  · rw [llN_t (by omega), llN_t (by omega)]
    show vS _ _ _ _ 6 p.toNat = _
    rw [vS_s]
theorem tc_llempt {p : Int} (hp : 0 ≤ p ∧ p < 15) (hn : 0 < U 6 p.toNat) :
    TC l yJ7_clear cJ7_clear 3 none 1 0 0 EV (tLL p.toNat) [.ref (A 24 p.toNat)] A U [] (rV none A (vS U 6 p.toNat 0) []) rNo := by
  refine tc_llclear l EV (A := A) (U := U) (U' := vS U 6 p.toNat 0) (i := p.toNat) (Or.inl (by omega)) (by rw [llN_t (by omega)]; exact hn) (fun _ => rfl) (fun i' hi' h' => ⟨h', ?_, fun j hj h6 => rfl⟩) ?_ ⟨fun _ h => h, fun _ => rfl, fun _ _ => rfl⟩
  · by_cases h15 : i' < 15
    · rw [llN_t h15, llN_t h15]
      show vS _ _ _ _ 6 i' = _
      rw [vS_i hi']
    · obtain ⟨r, rfl⟩ : ∃ r, i' = 15 + r := ⟨i' - 15, by omega⟩
      rw [llN_r, llN_r]
      rfl
  · rw [llN_t (by omega)]
    show vS _ _ _ _ 6 p.toNat = _
    rw [vS_s]
end
