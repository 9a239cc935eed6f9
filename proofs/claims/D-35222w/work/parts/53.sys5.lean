/-! THE SYSTEM's methods walked: calls and bookings by callers; trunks -/
theorem uBec_k {U : gV} {b : Int} {x k i : Nat} (h : k ≠ 18) (h5 : k ≠ 5) : uBec U b x k i = U k i := by
  unfold uBec
  rw [uBk_k h5, vS_k h]
theorem uEnd_k {U : gV} {c : Int} {k i : Nat} (h : k ≠ 9) (h5 : k ≠ 15) (h6 : k ≠ 16) : uEnd U c k i = U k i := by
  unfold uEnd
  rw [uEo_k h, vS_k h6, vS_k h5]
theorem uR24 {U : gV} (hI : uI U) {b : Int} (h0 : 0 ≤ b) (h1 : b < U 17 0) : ∀ k : Int, 0 ≤ k → k < U 23 b.toNat → 0 ≤ U 24 (30 * b + k).toNat ∧ U 24 (30 * b + k).toNat < U 41 0 := fun k g0 g1 => by
  have hu := uIs hI
  unfold uS at hu
  have := uI24 hI h0 h1 g0 g1
  omega
theorem uR32 {U : gV} (hI : uI U) {c : Int} (h0 : 0 ≤ c) (h1 : c < U 11 0) : ∀ k : Int, 0 ≤ k → k < U 31 c.toNat → 0 ≤ U 32 (2 * c + k).toNat ∧ U 32 (2 * c + k).toNat < 6 := fun k g0 g1 => uI32 hI h0 h1 g0 g1
def uHang (U : gV) (c : Int) : Int × gV := if U 16 c.toNat < 0 then (0, uEnd U c) else (U 23 (U 16 c.toNat).toNat, uEnd (uBec U (U 16 c.toNat) 5) c)
set_option maxHeartbeats 1000000 in
theorem tc_confirmU (l : Launch) (EV : gEV) {A : gAd} {U : gV} {x : Int} (hx : inR x) (hI : uI U) : TC l yX1_confirm cX1_confirm 5 (some .int) 9 4 22 EV tSys [.ref (A 10 0), .int (iI x)] A U [] (fun w A9 U9 L9 => rV (some (.int (iI (U 16 x.toNat)))) A (vS (uBec U (U 16 x.toNat) 2) 16 x.toNat (-1)) [] w A9 U9 L9 ∧ (0 ≤ x ∧ x < U 11 0) ∧ ¬ U 15 x.toNat = 0 ∧ ¬ U 16 x.toNat < 0) (fun E => E = cIOB ∧ ¬ (0 ≤ x ∧ x < U 11 0) ∨ E = cISE ∧ (0 ≤ x ∧ x < U 11 0) ∧ (U 15 x.toNat = 0 ∨ U 16 x.toNat < 0)) := by
  refine t_body tbX1_confirm tkX1_confirm (by decide) (by intro v hv; simp only [List.mem_cons, List.not_mem_nil, or_false] at hv; rcases hv with rfl | rfl <;> rfl) (Nat.le_of_ble_eq_true rfl) (fun M0 z Q X hl hR hQ hE => ?_)
  subst hl
  have hu := uIs hI
  unfold uS at hu
  refine t_eq (ls' := [some (.ref (A 10 0)), some (.int (iI x)), none, none, none]) (st' := []) rfl rfl ?_
  refine t_run X 2 (pc1 := 2) (ls1 := [_, _, _, _, _]) (st1 := [_, _]) rfl ?_
  refine t_callV X [] [] rfl mX1_249 (tc_goingOn z.2.1 EV (x := x) (by omega) hI) (fun M h _ => ⟨_, _, h.1 (10, 0) _ sC_10⟩) rfl rfl (fun _ h => h.elim) (fun _ h => by cases h) rfl rfl (Nat.le_of_ble_eq_true rfl) (gFit.of hR (by decide) (Nat.le_of_ble_eq_true rfl) (Nat.le_of_ble_eq_true rfl)) (fun E h => t_out X hQ hE (by omega) (by omega) (h.elim (fun h => Or.inl h) (fun h => Or.inr ⟨h.1, h.2.1, Or.inl h.2.2⟩))) (fun v9 A9 U9 L9 h9 => ?_)
  obtain ⟨⟨rfl, h7, h8, rfl⟩, l2⟩ := h9
  obtain rfl := h7.symm
  obtain rfl := h8.symm
  refine t_eq (st' := [.ref (A 13 (x.toNat))]) rfl rfl ?_
  have b15 := uI15 hI (j := x) (by omega) (by omega)
  have b16 := uI16 hI (j := x) (by omega) (by omega)
  have b31 := uI31 hI (j := x) (by omega) (by omega)
  refine t_run X 2 (pc1 := 7) (ls1 := [_, _, _, _, _]) (st1 := [_]) rfl ?_
  by_cases n1 : (U 16 x.toNat) < 0
  · refine t_get X (13, (x.toNat)) (v := .null) rfl fX1_236 (sC_13 (by first | omega | (show _ < U 43 0; omega) | (simp [vS]; omega))) (by show some (rfA A 12 (U 16 x.toNat)) = _; rw [rfA_0 n1]) ?_
    refine t_run X 2 (pc1 := 18) (ls1 := [_, _, _, _, _]) (st1 := [_]) rfl ?_
    refine t_eq (st' := [.int (iI (bI (False)))]) rfl rfl ?_
    refine t_callS X [] [] rfl mX1_154 (tc_allowed z.2.1 EV (False)) rfl rfl (fun _ h => h.elim) (fun _ _ h => h) rfl rfl (Nat.le_of_ble_eq_true rfl) (gFit.of hR (by decide) (Nat.le_of_ble_eq_true rfl) (Nat.le_of_ble_eq_true rfl)) (fun E h => t_out X hQ hE (by omega) (by omega) (Or.inr ⟨h.1, by omega, by omega⟩)) (fun v9 A9 U9 L9 h9 => ?_)
    exact h9.2.elim
  · refine t_get X (13, (x.toNat)) (v := .ref (A 12 ((U 16 x.toNat).toNat))) rfl fX1_236 (sC_13 (by first | omega | (show _ < U 43 0; omega) | (simp [vS]; omega))) (by show some (rfA A 12 (U 16 x.toNat)) = _; rw [rfA_1 n1]) ?_
    refine t_run X 3 (pc1 := 18) (ls1 := [_, _, _, _, _]) (st1 := [_]) rfl ?_
    refine t_eq (st' := [.int (iI (bI (True)))]) rfl rfl ?_
    refine t_callS X [] [] rfl mX1_154 (tc_allowed z.2.1 EV (True)) rfl rfl (fun _ h => h.elim) (fun _ _ h => h) rfl rfl (Nat.le_of_ble_eq_true rfl) (gFit.of hR (by decide) (Nat.le_of_ble_eq_true rfl) (Nat.le_of_ble_eq_true rfl)) (fun E h => (h.2 trivial).elim) (fun v9 A9 U9 L9 h9 => ?_)
    obtain ⟨⟨rfl, h7, h8, rfl⟩, -⟩ := h9
    obtain rfl := h7.symm
    obtain rfl := h8.symm
    refine t_eq (st' := []) rfl rfl ?_
    have bb := uIb hI (j := U 16 x.toNat) (by omega) (by omega)
    refine t_run X 1 (pc1 := 22) (ls1 := [_, _, _, _, _]) (st1 := [_]) rfl ?_
    refine t_get X (13, (x.toNat)) (v := .ref (A 12 ((U 16 x.toNat).toNat))) rfl fX1_236 (sC_13 (by first | omega | (show _ < U 43 0; omega) | (simp [vS]; omega))) (by show some (rfA A 12 (U 16 x.toNat)) = _; rw [rfA_1 n1]) ?_
    refine t_run X 2 (pc1 := 27) (ls1 := [_, _, _, _, _]) (st1 := [_]) rfl ?_
    refine t_enum X 2 (by decide) rfl q1982 ?_
    refine t_callV X [] [] rfl mX1_258 (tc_become z.2.1 EV (b := (U 16 x.toNat)) (x := 2) (by first | omega | (show 0 ≤ _ ∧ _ < U 42 0; omega)) (by first | omega | (show U 42 0 ≤ 40; omega)) (by decide) (by first | omega | (show 0 ≤ U 23 _ ∧ U 23 _ ≤ 30; omega)) (uR24 hI (b := (U 16 x.toNat)) (by omega) (by omega))) (fun M h _ => ⟨_, _, h.1 (12, ((U 16 x.toNat).toNat)) _ (sC_12 (by first | omega | (show _ < U 42 0; omega) | (simp [vS]; omega)))⟩) rfl rfl (fun t h => by rcases h with h | h | h <;> (try rw [h]) <;> first | (show ¬ (_ : Nat) = 9; omega) | (show ¬ t.1 = 9; omega)) (fun _ h => by cases h) rfl rfl (Nat.le_of_ble_eq_true rfl) (gFit.of hR (by decide) (Nat.le_of_ble_eq_true rfl) (Nat.le_of_ble_eq_true rfl)) (fun _ h => h.elim) (fun v9 A9 U9 L9 h9 => ?_)
    obtain ⟨rfl, h7, h8, -⟩ := h9
    obtain rfl := h7.symm
    subst h8
    refine t_drop ?_
    have g30_41 : (uBec U (U 16 x.toNat) 2) 41 0 = U 41 0 := uBec_k (by decide) (by decide)
    have g30_42 : (uBec U (U 16 x.toNat) 2) 42 0 = U 42 0 := uBec_k (by decide) (by decide)
    have g30_43 : (uBec U (U 16 x.toNat) 2) 43 0 = U 43 0 := uBec_k (by decide) (by decide)
    have g30_45 : (uBec U (U 16 x.toNat) 2) 45 0 = U 45 0 := uBec_k (by decide) (by decide)
    have g30_46 : (uBec U (U 16 x.toNat) 2) 46 0 = U 46 0 := uBec_k (by decide) (by decide)
    refine t_eq (st' := [.int (iI (U 23 (U 16 x.toNat).toNat))]) rfl rfl ?_
    refine t_run X 3 (pc1 := 37) (ls1 := [_, _, _, _, _]) (st1 := [_, _]) rfl ?_
    refine t_eq (st' := [rfA A 12 (-1), .ref (A 13 (x.toNat))]) rfl (by rw [rfA_0 (by omega)]) ?_
    refine t_pu16 X (x := (-1)) rfl fX1_236 (by first | omega | (show _ < U 43 0; omega)) (show ¬ (13 : Nat) = 9 by decide) (fun _ h => nomatch h) ?_
    refine t_run X 1 (pc1 := 41) (ls1 := [_, _, _, _, _]) (st1 := [_]) rfl ?_
    refine t_get X (12, (U 16 x.toNat).toNat) (v := .int (iI (U 16 x.toNat))) rfl fX1_214 (sC_12 (by first | omega | (simp [vS]; omega))) (by rw [show (((U 16 x.toNat).toNat : Nat) : Int) = U 16 x.toNat by omega]; rfl) ?_
    exact t_iret X hQ rfl rfl (by omega) (by omega) ⟨⟨rfl, rfl, rfl, rfl⟩, by omega⟩
set_option maxHeartbeats 1000000 in
theorem tc_resumeU (l : Launch) (EV : gEV) {A : gAd} {U : gV} {x y : Int} (hx : inR x) (hy : inR y) (hI : uI U) : TC l yX1_resume cX1_resume 5 (some .int) 8 4 22 EV tSys [.ref (A 10 0), .int (iI x), .int (iI y)] A U [] (fun w A9 U9 L9 => rV (some (.int (iI (U 23 y.toNat)))) A (uBec (vS U 16 x.toNat y) y 0) [] w A9 U9 L9 ∧ (0 ≤ x ∧ x < U 11 0) ∧ (0 ≤ y ∧ y < U 17 0) ∧ ¬ U 15 x.toNat = 0 ∧ U 16 x.toNat < 0 ∧ U 18 y.toNat = 1 ∧ (U 20 y.toNat = U 13 x.toNat ∧ U 21 y.toNat = U 14 x.toNat)) (fun E => E = cIOB ∧ ¬ (0 ≤ x ∧ x < U 11 0) ∨ E = cIOB ∧ (0 ≤ x ∧ x < U 11 0) ∧ ¬ (0 ≤ y ∧ y < U 17 0) ∨ E = cISE ∧ (0 ≤ x ∧ x < U 11 0) ∧ (0 ≤ y ∧ y < U 17 0) ∧ ¬ (¬ U 15 x.toNat = 0 ∧ U 16 x.toNat < 0 ∧ U 18 y.toNat = 1 ∧ (U 20 y.toNat = U 13 x.toNat ∧ U 21 y.toNat = U 14 x.toNat))) := by
  refine t_body tbX1_resume tkX1_resume (by decide) (by intro v hv; simp only [List.mem_cons, List.not_mem_nil, or_false] at hv; rcases hv with rfl | rfl | rfl <;> rfl) (Nat.le_of_ble_eq_true rfl) (fun M0 z Q X hl hR hQ hE => ?_)
  subst hl
  have hu := uIs hI
  unfold uS at hu
  refine t_eq (ls' := [some (.ref (A 10 0)), some (.int (iI x)), some (.int (iI y)), none, none]) (st' := []) rfl rfl ?_
  refine t_run X 2 (pc1 := 2) (ls1 := [_, _, _, _, _]) (st1 := [_, _]) rfl ?_
  refine t_callV X [] [] rfl mX1_150 (tc_named z.2.1 EV (x := x) (by omega) hI) (fun M h _ => ⟨_, _, h.1 (10, 0) _ sC_10⟩) rfl rfl (fun _ h => h.elim) (fun _ h => by cases h) rfl rfl (Nat.le_of_ble_eq_true rfl) (gFit.of hR (by decide) (Nat.le_of_ble_eq_true rfl) (Nat.le_of_ble_eq_true rfl)) (fun E h => t_out X hQ hE (by omega) (by omega) (Or.inl h)) (fun v9 A9 U9 L9 h9 => ?_)
  obtain ⟨⟨rfl, h7, h8, rfl⟩, l2⟩ := h9
  obtain rfl := h7.symm
  obtain rfl := h8.symm
  refine t_eq (st' := [.ref (A 13 (x.toNat))]) rfl rfl ?_
  refine t_run X 3 (pc1 := 8) (ls1 := [_, _, _, _, _]) (st1 := [_, _]) rfl ?_
  refine t_callV X [] [] rfl mX1_264 (tc_bookingOf z.2.1 EV (x := y) (by omega) hI) (fun M h _ => ⟨_, _, h.1 (10, 0) _ sC_10⟩) rfl rfl (fun _ h => h.elim) (fun _ h => by cases h) rfl rfl (Nat.le_of_ble_eq_true rfl) (gFit.of hR (by decide) (Nat.le_of_ble_eq_true rfl) (Nat.le_of_ble_eq_true rfl)) (fun E h => t_out X hQ hE (by omega) (by omega) (Or.inr (Or.inl ⟨h.1, by omega, h.2⟩))) (fun v9 A9 U9 L9 h9 => ?_)
  obtain ⟨⟨rfl, h7, h8, rfl⟩, l8⟩ := h9
  obtain rfl := h7.symm
  obtain rfl := h8.symm
  refine t_eq (st' := [.ref (A 12 (y.toNat))]) rfl rfl ?_
  have b15 := uI15 hI (j := x) (by omega) (by omega)
  have b16 := uI16 hI (j := x) (by omega) (by omega)
  have bb := uIb hI (j := y) (by omega) (by omega)
  refine t_run X 2 (pc1 := 14) (ls1 := [_, _, _, _, _]) (st1 := [_]) rfl ?_
  refine t_get X (13, (x.toNat)) (v := .int (iI (U 15 x.toNat))) rfl fX1_123 (sC_13 (by first | omega | (show _ < U 43 0; omega) | (simp [vS]; omega))) rfl ?_
  refine t_br X (pc1 := 51) (st1 := []) rfl (fun b9 => ?_) (fun b9 => ?_)
  · have c17 : (U 15 x.toNat) = 0 := cEq b9 (by omega) (by omega)
    refine t_run X 1 (pc1 := 52) (ls1 := [_, _, _, _, _]) (st1 := [_]) rfl ?_
    refine t_eq (st' := [.int (iI (bI (False)))]) rfl rfl ?_
    refine t_callS X [] [] rfl mX1_154 (tc_allowed z.2.1 EV (False)) rfl rfl (fun _ h => h.elim) (fun _ _ h => h) rfl rfl (Nat.le_of_ble_eq_true rfl) (gFit.of hR (by decide) (Nat.le_of_ble_eq_true rfl) (Nat.le_of_ble_eq_true rfl)) (fun E h => t_out X hQ hE (by omega) (by omega) (Or.inr (Or.inr ⟨h.1, by omega, by omega, by omega⟩))) (fun v9 A9 U9 L9 h9 => ?_)
    exact h9.2.elim
  · have c17 : ¬ (U 15 x.toNat) = 0 := cNq b9 (by omega) (by omega)
    refine t_run X 1 (pc1 := 21) (ls1 := [_, _, _, _, _]) (st1 := [_]) rfl ?_
    by_cases n1 : (U 16 x.toNat) < 0
    · refine t_get X (13, (x.toNat)) (v := .null) rfl fX1_236 (sC_13 (by first | omega | (show _ < U 43 0; omega) | (simp [vS]; omega))) (by show some (rfA A 12 (U 16 x.toNat)) = _; rw [rfA_0 n1]) ?_
      refine t_run X 2 (pc1 := 29) (ls1 := [_, _, _, _, _]) (st1 := [_]) rfl ?_
      refine t_get X (12, (y.toNat)) (v := .ref (EV.2.2.2 (10 + (U 18 y.toNat).toNat))) rfl fX1_268 (sC_12 (by first | omega | (show _ < U 42 0; omega) | (simp [vS]; omega))) rfl ?_
      refine t_enum X 1 (by decide) rfl q2018 ?_
      refine t_ecmp X (i := (U 18 y.toNat).toNat) (j := 1) (by omega) (by decide) rfl rfl (fun b9 => ?_) (fun b9 => ?_)
      · have c35 : ¬ (U 18 y.toNat) = 1 := by omega
        refine t_run X 1 (pc1 := 52) (ls1 := [_, _, _, _, _]) (st1 := [_]) rfl ?_
        refine t_eq (st' := [.int (iI (bI (False)))]) rfl rfl ?_
        refine t_callS X [] [] rfl mX1_154 (tc_allowed z.2.1 EV (False)) rfl rfl (fun _ h => h.elim) (fun _ _ h => h) rfl rfl (Nat.le_of_ble_eq_true rfl) (gFit.of hR (by decide) (Nat.le_of_ble_eq_true rfl) (Nat.le_of_ble_eq_true rfl)) (fun E h => t_out X hQ hE (by omega) (by omega) (Or.inr (Or.inr ⟨h.1, by omega, by omega, by omega⟩))) (fun v9 A9 U9 L9 h9 => ?_)
        exact h9.2.elim
      · have c35 : (U 18 y.toNat) = 1 := by omega
        refine t_run X 2 (pc1 := 41) (ls1 := [_, _, _, _, _]) (st1 := [_, _]) rfl ?_
        refine t_callS X [] [] rfl mX1_274 (tc_isFor z.2.1 EV (b := y) (c := x) (by omega) (by omega) hI) rfl rfl (fun _ h => h.elim) (fun _ _ h => h) rfl rfl (Nat.le_of_ble_eq_true rfl) (gFit.of hR (by decide) (Nat.le_of_ble_eq_true rfl) (Nat.le_of_ble_eq_true rfl)) (fun _ h => h.elim) (fun v9 A9 U9 L9 h9 => ?_)
        obtain ⟨rfl, h7, h8, rfl⟩ := h9
        obtain rfl := h7.symm
        obtain rfl := h8.symm
        refine t_eq (st' := [.int (iI (bI (U 20 y.toNat = U 13 x.toNat ∧ U 21 y.toNat = U 14 x.toNat)))]) rfl rfl ?_
        refine t_br X (pc1 := 51) (st1 := []) rfl (fun b9 => ?_) (fun b9 => ?_)
        · have c44 : ¬ (U 20 y.toNat = U 13 x.toNat ∧ U 21 y.toNat = U 14 x.toNat) := bI_f b9
          refine t_run X 1 (pc1 := 52) (ls1 := [_, _, _, _, _]) (st1 := [_]) rfl ?_
          refine t_eq (st' := [.int (iI (bI (False)))]) rfl rfl ?_
          refine t_callS X [] [] rfl mX1_154 (tc_allowed z.2.1 EV (False)) rfl rfl (fun _ h => h.elim) (fun _ _ h => h) rfl rfl (Nat.le_of_ble_eq_true rfl) (gFit.of hR (by decide) (Nat.le_of_ble_eq_true rfl) (Nat.le_of_ble_eq_true rfl)) (fun E h => t_out X hQ hE (by omega) (by omega) (Or.inr (Or.inr ⟨h.1, by omega, by omega, by omega⟩))) (fun v9 A9 U9 L9 h9 => ?_)
          exact h9.2.elim
        · have c44 : U 20 y.toNat = U 13 x.toNat ∧ U 21 y.toNat = U 14 x.toNat := bI_t b9
          refine t_run X 2 (pc1 := 52) (ls1 := [_, _, _, _, _]) (st1 := [_]) rfl ?_
          refine t_eq (st' := [.int (iI (bI (True)))]) rfl rfl ?_
          refine t_callS X [] [] rfl mX1_154 (tc_allowed z.2.1 EV (True)) rfl rfl (fun _ h => h.elim) (fun _ _ h => h) rfl rfl (Nat.le_of_ble_eq_true rfl) (gFit.of hR (by decide) (Nat.le_of_ble_eq_true rfl) (Nat.le_of_ble_eq_true rfl)) (fun E h => (h.2 trivial).elim) (fun v9 A9 U9 L9 h9 => ?_)
          obtain ⟨⟨rfl, h7, h8, rfl⟩, -⟩ := h9
          obtain rfl := h7.symm
          obtain rfl := h8.symm
          refine t_eq (st' := []) rfl rfl ?_
          refine t_run X 2 (pc1 := 58) (ls1 := [_, _, _, _, _]) (st1 := [_, _]) rfl ?_
          refine t_eq (st' := [rfA A 12 y, .ref (A 13 (x.toNat))]) rfl (by rw [rfA_1 (by omega)] <;> first | rfl | (congr 2; omega)) ?_
          refine t_pu16 X (x := y) rfl fX1_236 (by first | omega | (show _ < U 43 0; omega)) (show ¬ (13 : Nat) = 9 by decide) (fun _ h => nomatch h) ?_
          refine t_run X 1 (pc1 := 63) (ls1 := [_, _, _, _, _]) (st1 := [_]) rfl ?_
          refine t_enum X 0 (by decide) rfl q2023 ?_
          refine t_callV X [] [] rfl mX1_258 (tc_become z.2.1 EV (b := y) (x := 0) (by first | omega | (show 0 ≤ _ ∧ _ < U 42 0; omega)) (by first | omega | (show U 42 0 ≤ 40; omega)) (by decide) (by first | omega | (show 0 ≤ U 23 _ ∧ U 23 _ ≤ 30; omega)) (uR24 hI (b := y) (by omega) (by omega))) (fun M h _ => ⟨_, _, h.1 (12, (y.toNat)) _ (sC_12 (by first | omega | (show _ < U 42 0; omega) | (simp [vS]; omega)))⟩) rfl rfl (fun t h => by rcases h with h | h | h <;> (try rw [h]) <;> first | (show ¬ (_ : Nat) = 9; omega) | (show ¬ t.1 = 9; omega)) (fun _ h => by cases h) rfl rfl (Nat.le_of_ble_eq_true rfl) (gFit.of hR (by decide) (Nat.le_of_ble_eq_true rfl) (Nat.le_of_ble_eq_true rfl)) (fun _ h => h.elim) (fun v9 A9 U9 L9 h9 => ?_)
          obtain ⟨rfl, h7, h8, -⟩ := h9
          obtain rfl := h7.symm
          subst h8
          refine t_drop ?_
          have g66_41 : (uBec (vS U 16 (x.toNat) y) y 0) 41 0 = U 41 0 := uBec_k (by decide) (by decide)
          have g66_42 : (uBec (vS U 16 (x.toNat) y) y 0) 42 0 = U 42 0 := uBec_k (by decide) (by decide)
          have g66_43 : (uBec (vS U 16 (x.toNat) y) y 0) 43 0 = U 43 0 := uBec_k (by decide) (by decide)
          have g66_45 : (uBec (vS U 16 (x.toNat) y) y 0) 45 0 = U 45 0 := uBec_k (by decide) (by decide)
          have g66_46 : (uBec (vS U 16 (x.toNat) y) y 0) 46 0 = U 46 0 := uBec_k (by decide) (by decide)
          refine t_eq (st' := [.int (iI (U 23 y.toNat))]) rfl rfl ?_
          exact t_iret X hQ rfl rfl (by omega) (by omega) ⟨⟨rfl, rfl, rfl, rfl⟩, by omega⟩
    · refine t_get X (13, (x.toNat)) (v := .ref (A 12 ((U 16 x.toNat).toNat))) rfl fX1_236 (sC_13 (by first | omega | (show _ < U 43 0; omega) | (simp [vS]; omega))) (by show some (rfA A 12 (U 16 x.toNat)) = _; rw [rfA_1 n1]) ?_
      refine t_run X 2 (pc1 := 52) (ls1 := [_, _, _, _, _]) (st1 := [_]) rfl ?_
      refine t_eq (st' := [.int (iI (bI (False)))]) rfl rfl ?_
      refine t_callS X [] [] rfl mX1_154 (tc_allowed z.2.1 EV (False)) rfl rfl (fun _ h => h.elim) (fun _ _ h => h) rfl rfl (Nat.le_of_ble_eq_true rfl) (gFit.of hR (by decide) (Nat.le_of_ble_eq_true rfl) (Nat.le_of_ble_eq_true rfl)) (fun E h => t_out X hQ hE (by omega) (by omega) (Or.inr (Or.inr ⟨h.1, by omega, by omega, by omega⟩))) (fun v9 A9 U9 L9 h9 => ?_)
      exact h9.2.elim
set_option maxHeartbeats 1000000 in
theorem tc_cancelU (l : Launch) (EV : gEV) {A : gAd} {U : gV} {x y : Int} (hx : inR x) (hy : inR y) (hI : uI U) : TC l yX1_cancel cX1_cancel 5 (some .int) 8 4 22 EV tSys [.ref (A 10 0), .int (iI x), .int (iI y)] A U [] (fun w A9 U9 L9 => rV (some (.int (iI (U 23 y.toNat)))) A (uBec U y 5) [] w A9 U9 L9 ∧ (0 ≤ x ∧ x < U 11 0) ∧ (0 ≤ y ∧ y < U 17 0) ∧ ¬ U 15 x.toNat = 0 ∧ U 18 y.toNat = 2 ∧ (U 20 y.toNat = U 13 x.toNat ∧ U 21 y.toNat = U 14 x.toNat)) (fun E => E = cIOB ∧ ¬ (0 ≤ x ∧ x < U 11 0) ∨ E = cIOB ∧ (0 ≤ x ∧ x < U 11 0) ∧ ¬ (0 ≤ y ∧ y < U 17 0) ∨ E = cISE ∧ (0 ≤ x ∧ x < U 11 0) ∧ (0 ≤ y ∧ y < U 17 0) ∧ ¬ (¬ U 15 x.toNat = 0 ∧ U 18 y.toNat = 2 ∧ (U 20 y.toNat = U 13 x.toNat ∧ U 21 y.toNat = U 14 x.toNat))) := by
  refine t_body tbX1_cancel tkX1_cancel (by decide) (by intro v hv; simp only [List.mem_cons, List.not_mem_nil, or_false] at hv; rcases hv with rfl | rfl | rfl <;> rfl) (Nat.le_of_ble_eq_true rfl) (fun M0 z Q X hl hR hQ hE => ?_)
  subst hl
  have hu := uIs hI
  unfold uS at hu
  refine t_eq (ls' := [some (.ref (A 10 0)), some (.int (iI x)), some (.int (iI y)), none, none]) (st' := []) rfl rfl ?_
  refine t_run X 2 (pc1 := 2) (ls1 := [_, _, _, _, _]) (st1 := [_, _]) rfl ?_
  refine t_callV X [] [] rfl mX1_150 (tc_named z.2.1 EV (x := x) (by omega) hI) (fun M h _ => ⟨_, _, h.1 (10, 0) _ sC_10⟩) rfl rfl (fun _ h => h.elim) (fun _ h => by cases h) rfl rfl (Nat.le_of_ble_eq_true rfl) (gFit.of hR (by decide) (Nat.le_of_ble_eq_true rfl) (Nat.le_of_ble_eq_true rfl)) (fun E h => t_out X hQ hE (by omega) (by omega) (Or.inl h)) (fun v9 A9 U9 L9 h9 => ?_)
  obtain ⟨⟨rfl, h7, h8, rfl⟩, l2⟩ := h9
  obtain rfl := h7.symm
  obtain rfl := h8.symm
  refine t_eq (st' := [.ref (A 13 (x.toNat))]) rfl rfl ?_
  refine t_run X 3 (pc1 := 8) (ls1 := [_, _, _, _, _]) (st1 := [_, _]) rfl ?_
  refine t_callV X [] [] rfl mX1_264 (tc_bookingOf z.2.1 EV (x := y) (by omega) hI) (fun M h _ => ⟨_, _, h.1 (10, 0) _ sC_10⟩) rfl rfl (fun _ h => h.elim) (fun _ h => by cases h) rfl rfl (Nat.le_of_ble_eq_true rfl) (gFit.of hR (by decide) (Nat.le_of_ble_eq_true rfl) (Nat.le_of_ble_eq_true rfl)) (fun E h => t_out X hQ hE (by omega) (by omega) (Or.inr (Or.inl ⟨h.1, by omega, h.2⟩))) (fun v9 A9 U9 L9 h9 => ?_)
  obtain ⟨⟨rfl, h7, h8, rfl⟩, l8⟩ := h9
  obtain rfl := h7.symm
  obtain rfl := h8.symm
  refine t_eq (st' := [.ref (A 12 (y.toNat))]) rfl rfl ?_
  have b15 := uI15 hI (j := x) (by omega) (by omega)
  have b16 := uI16 hI (j := x) (by omega) (by omega)
  have bb := uIb hI (j := y) (by omega) (by omega)
  refine t_run X 2 (pc1 := 14) (ls1 := [_, _, _, _, _]) (st1 := [_]) rfl ?_
  refine t_get X (13, (x.toNat)) (v := .int (iI (U 15 x.toNat))) rfl fX1_123 (sC_13 (by first | omega | (show _ < U 43 0; omega) | (simp [vS]; omega))) rfl ?_
  refine t_br X (pc1 := 44) (st1 := []) rfl (fun b9 => ?_) (fun b9 => ?_)
  · have c17 : (U 15 x.toNat) = 0 := cEq b9 (by omega) (by omega)
    refine t_run X 1 (pc1 := 45) (ls1 := [_, _, _, _, _]) (st1 := [_]) rfl ?_
    refine t_eq (st' := [.int (iI (bI (False)))]) rfl rfl ?_
    refine t_callS X [] [] rfl mX1_154 (tc_allowed z.2.1 EV (False)) rfl rfl (fun _ h => h.elim) (fun _ _ h => h) rfl rfl (Nat.le_of_ble_eq_true rfl) (gFit.of hR (by decide) (Nat.le_of_ble_eq_true rfl) (Nat.le_of_ble_eq_true rfl)) (fun E h => t_out X hQ hE (by omega) (by omega) (Or.inr (Or.inr ⟨h.1, by omega, by omega, by omega⟩))) (fun v9 A9 U9 L9 h9 => ?_)
    exact h9.2.elim
  · have c17 : ¬ (U 15 x.toNat) = 0 := cNq b9 (by omega) (by omega)
    refine t_run X 1 (pc1 := 22) (ls1 := [_, _, _, _, _]) (st1 := [_]) rfl ?_
    refine t_get X (12, (y.toNat)) (v := .ref (EV.2.2.2 (10 + (U 18 y.toNat).toNat))) rfl fX1_268 (sC_12 (by first | omega | (show _ < U 42 0; omega) | (simp [vS]; omega))) rfl ?_
    refine t_enum X 2 (by decide) rfl q1982 ?_
    refine t_ecmp X (i := (U 18 y.toNat).toNat) (j := 2) (by omega) (by decide) rfl rfl (fun b9 => ?_) (fun b9 => ?_)
    · have c28 : ¬ (U 18 y.toNat) = 2 := by omega
      refine t_run X 1 (pc1 := 45) (ls1 := [_, _, _, _, _]) (st1 := [_]) rfl ?_
      refine t_eq (st' := [.int (iI (bI (False)))]) rfl rfl ?_
      refine t_callS X [] [] rfl mX1_154 (tc_allowed z.2.1 EV (False)) rfl rfl (fun _ h => h.elim) (fun _ _ h => h) rfl rfl (Nat.le_of_ble_eq_true rfl) (gFit.of hR (by decide) (Nat.le_of_ble_eq_true rfl) (Nat.le_of_ble_eq_true rfl)) (fun E h => t_out X hQ hE (by omega) (by omega) (Or.inr (Or.inr ⟨h.1, by omega, by omega, by omega⟩))) (fun v9 A9 U9 L9 h9 => ?_)
      exact h9.2.elim
    · have c28 : (U 18 y.toNat) = 2 := by omega
      refine t_run X 2 (pc1 := 34) (ls1 := [_, _, _, _, _]) (st1 := [_, _]) rfl ?_
      refine t_callS X [] [] rfl mX1_274 (tc_isFor z.2.1 EV (b := y) (c := x) (by omega) (by omega) hI) rfl rfl (fun _ h => h.elim) (fun _ _ h => h) rfl rfl (Nat.le_of_ble_eq_true rfl) (gFit.of hR (by decide) (Nat.le_of_ble_eq_true rfl) (Nat.le_of_ble_eq_true rfl)) (fun _ h => h.elim) (fun v9 A9 U9 L9 h9 => ?_)
      obtain ⟨rfl, h7, h8, rfl⟩ := h9
      obtain rfl := h7.symm
      obtain rfl := h8.symm
      refine t_eq (st' := [.int (iI (bI (U 20 y.toNat = U 13 x.toNat ∧ U 21 y.toNat = U 14 x.toNat)))]) rfl rfl ?_
      refine t_br X (pc1 := 44) (st1 := []) rfl (fun b9 => ?_) (fun b9 => ?_)
      · have c37 : ¬ (U 20 y.toNat = U 13 x.toNat ∧ U 21 y.toNat = U 14 x.toNat) := bI_f b9
        refine t_run X 1 (pc1 := 45) (ls1 := [_, _, _, _, _]) (st1 := [_]) rfl ?_
        refine t_eq (st' := [.int (iI (bI (False)))]) rfl rfl ?_
        refine t_callS X [] [] rfl mX1_154 (tc_allowed z.2.1 EV (False)) rfl rfl (fun _ h => h.elim) (fun _ _ h => h) rfl rfl (Nat.le_of_ble_eq_true rfl) (gFit.of hR (by decide) (Nat.le_of_ble_eq_true rfl) (Nat.le_of_ble_eq_true rfl)) (fun E h => t_out X hQ hE (by omega) (by omega) (Or.inr (Or.inr ⟨h.1, by omega, by omega, by omega⟩))) (fun v9 A9 U9 L9 h9 => ?_)
        exact h9.2.elim
      · have c37 : U 20 y.toNat = U 13 x.toNat ∧ U 21 y.toNat = U 14 x.toNat := bI_t b9
        refine t_run X 2 (pc1 := 45) (ls1 := [_, _, _, _, _]) (st1 := [_]) rfl ?_
        refine t_eq (st' := [.int (iI (bI (True)))]) rfl rfl ?_
        refine t_callS X [] [] rfl mX1_154 (tc_allowed z.2.1 EV (True)) rfl rfl (fun _ h => h.elim) (fun _ _ h => h) rfl rfl (Nat.le_of_ble_eq_true rfl) (gFit.of hR (by decide) (Nat.le_of_ble_eq_true rfl) (Nat.le_of_ble_eq_true rfl)) (fun E h => (h.2 trivial).elim) (fun v9 A9 U9 L9 h9 => ?_)
        obtain ⟨⟨rfl, h7, h8, rfl⟩, -⟩ := h9
        obtain rfl := h7.symm
        obtain rfl := h8.symm
        refine t_eq (st' := []) rfl rfl ?_
        refine t_run X 1 (pc1 := 50) (ls1 := [_, _, _, _, _]) (st1 := [_]) rfl ?_
        refine t_enum X 5 (by decide) rfl q2031 ?_
        refine t_callV X [] [] rfl mX1_258 (tc_become z.2.1 EV (b := y) (x := 5) (by first | omega | (show 0 ≤ _ ∧ _ < U 42 0; omega)) (by first | omega | (show U 42 0 ≤ 40; omega)) (by decide) (by first | omega | (show 0 ≤ U 23 _ ∧ U 23 _ ≤ 30; omega)) (uR24 hI (b := y) (by omega) (by omega))) (fun M h _ => ⟨_, _, h.1 (12, (y.toNat)) _ (sC_12 (by first | omega | (show _ < U 42 0; omega) | (simp [vS]; omega)))⟩) rfl rfl (fun t h => by rcases h with h | h | h <;> (try rw [h]) <;> first | (show ¬ (_ : Nat) = 9; omega) | (show ¬ t.1 = 9; omega)) (fun _ h => by cases h) rfl rfl (Nat.le_of_ble_eq_true rfl) (gFit.of hR (by decide) (Nat.le_of_ble_eq_true rfl) (Nat.le_of_ble_eq_true rfl)) (fun _ h => h.elim) (fun v9 A9 U9 L9 h9 => ?_)
        obtain ⟨rfl, h7, h8, -⟩ := h9
        obtain rfl := h7.symm
        subst h8
        refine t_drop ?_
        have g53_41 : (uBec U y 5) 41 0 = U 41 0 := uBec_k (by decide) (by decide)
        have g53_42 : (uBec U y 5) 42 0 = U 42 0 := uBec_k (by decide) (by decide)
        have g53_43 : (uBec U y 5) 43 0 = U 43 0 := uBec_k (by decide) (by decide)
        have g53_45 : (uBec U y 5) 45 0 = U 45 0 := uBec_k (by decide) (by decide)
        have g53_46 : (uBec U y 5) 46 0 = U 46 0 := uBec_k (by decide) (by decide)
        refine t_eq (st' := [.int (iI (U 23 y.toNat))]) rfl rfl ?_
        exact t_iret X hQ rfl rfl (by omega) (by omega) ⟨⟨rfl, rfl, rfl, rfl⟩, by omega⟩
set_option maxHeartbeats 1000000 in
theorem tc_hangUpU (l : Launch) (EV : gEV) {A : gAd} {U : gV} {x : Int} (hx : inR x) (hI : uI U) : TC l yX1_hangUp cX1_hangUp 4 (some .int) 9 4 20 EV tSys [.ref (A 10 0), .int (iI x)] A U [] (fun w A9 U9 L9 => rV (some (.int (iI (uHang U x).1))) A (uHang U x).2 [] w A9 U9 L9 ∧ (0 ≤ x ∧ x < U 11 0) ∧ ¬ U 15 x.toNat = 0) (fun E => E = cIOB ∧ ¬ (0 ≤ x ∧ x < U 11 0) ∨ E = cISE ∧ (0 ≤ x ∧ x < U 11 0) ∧ U 15 x.toNat = 0) := by
  refine t_body tbX1_hangUp tkX1_hangUp (by decide) (by intro v hv; simp only [List.mem_cons, List.not_mem_nil, or_false] at hv; rcases hv with rfl | rfl <;> rfl) (Nat.le_of_ble_eq_true rfl) (fun M0 z Q X hl hR hQ hE => ?_)
  subst hl
  have hu := uIs hI
  unfold uS at hu
  refine t_eq (ls' := [some (.ref (A 10 0)), some (.int (iI x)), none, none]) (st' := []) rfl rfl ?_
  refine t_run X 2 (pc1 := 2) (ls1 := [_, _, _, _]) (st1 := [_, _]) rfl ?_
  refine t_callV X [] [] rfl mX1_249 (tc_goingOn z.2.1 EV (x := x) (by omega) hI) (fun M h _ => ⟨_, _, h.1 (10, 0) _ sC_10⟩) rfl rfl (fun _ h => h.elim) (fun _ h => by cases h) rfl rfl (Nat.le_of_ble_eq_true rfl) (gFit.of hR (by decide) (Nat.le_of_ble_eq_true rfl) (Nat.le_of_ble_eq_true rfl)) (fun E h => t_out X hQ hE (by omega) (by omega) (h)) (fun v9 A9 U9 L9 h9 => ?_)
  obtain ⟨⟨rfl, h7, h8, rfl⟩, l2⟩ := h9
  obtain rfl := h7.symm
  obtain rfl := h8.symm
  refine t_eq (st' := [.ref (A 13 (x.toNat))]) rfl rfl ?_
  have b15 := uI15 hI (j := x) (by omega) (by omega)
  have b16 := uI16 hI (j := x) (by omega) (by omega)
  have b31 := uI31 hI (j := x) (by omega) (by omega)
  refine t_run X 2 (pc1 := 7) (ls1 := [_, _, _, _]) (st1 := [_]) rfl ?_
  by_cases n1 : (U 16 x.toNat) < 0
  · refine t_get X (13, (x.toNat)) (v := .null) rfl fX1_236 (sC_13 (by first | omega | (show _ < U 43 0; omega) | (simp [vS]; omega))) (by show some (rfA A 12 (U 16 x.toNat)) = _; rw [rfA_0 n1]) ?_
    refine t_run X 5 (pc1 := 29) (ls1 := [_, _, _, _]) (st1 := [_]) rfl ?_
    refine t_callV X [] [] rfl mX1_284 (tc_endC z.2.1 EV (c := x) (by first | omega | (show 0 ≤ _ ∧ _ < U 43 0; omega) | (simp [vS]; omega)) (by first | omega | (show 0 ≤ U 31 _ ∧ U 31 _ ≤ 2; omega) | omega) (uR32 hI (c := x) (by omega) (by omega))) (fun M h _ => ⟨_, _, h.1 (13, (x.toNat)) _ (sC_13 (by first | omega | (show _ < U 43 0; omega) | (simp [vS]; omega)))⟩) rfl rfl (fun t h => by rcases h with h | h | h <;> (try rw [h]) <;> first | (show ¬ (_ : Nat) = 9; omega) | (show ¬ t.1 = 9; omega)) (fun _ h => by cases h) rfl rfl (Nat.le_of_ble_eq_true rfl) (gFit.of hR (by decide) (Nat.le_of_ble_eq_true rfl) (Nat.le_of_ble_eq_true rfl)) (fun _ h => h.elim) (fun v9 A9 U9 L9 h9 => ?_)
    obtain ⟨rfl, h7, h8, -⟩ := h9
    obtain rfl := h7.symm
    subst h8
    refine t_drop ?_
    have g29_41 : (uEnd U x) 41 0 = U 41 0 := (uEnd_k (by decide) (by decide) (by decide)).trans rfl
    have g29_42 : (uEnd U x) 42 0 = U 42 0 := (uEnd_k (by decide) (by decide) (by decide)).trans rfl
    have g29_43 : (uEnd U x) 43 0 = U 43 0 := (uEnd_k (by decide) (by decide) (by decide)).trans rfl
    have g29_45 : (uEnd U x) 45 0 = U 45 0 := (uEnd_k (by decide) (by decide) (by decide)).trans rfl
    have g29_46 : (uEnd U x) 46 0 = U 46 0 := (uEnd_k (by decide) (by decide) (by decide)).trans rfl
    refine t_eq (st' := []) rfl rfl ?_
    refine t_run X 1 (pc1 := 33) (ls1 := [_, _, _, _]) (st1 := [_]) rfl ?_
    exact t_iret X hQ rfl rfl (by omega) (by omega) ⟨⟨by rw [uHang, if_pos (by omega)], rfl, by rw [uHang, if_pos (by omega)], rfl⟩, by omega⟩
  · refine t_get X (13, (x.toNat)) (v := .ref (A 12 ((U 16 x.toNat).toNat))) rfl fX1_236 (sC_13 (by first | omega | (show _ < U 43 0; omega) | (simp [vS]; omega))) (by show some (rfA A 12 (U 16 x.toNat)) = _; rw [rfA_1 n1]) ?_
    refine t_run X 1 (pc1 := 17) (ls1 := [_, _, _, _]) (st1 := []) rfl ?_
    have bb := uIb hI (j := U 16 x.toNat) (by omega) (by omega)
    refine t_run X 1 (pc1 := 18) (ls1 := [_, _, _, _]) (st1 := [_]) rfl ?_
    refine t_get X (13, (x.toNat)) (v := .ref (A 12 ((U 16 x.toNat).toNat))) rfl fX1_236 (sC_13 (by first | omega | (show _ < U 43 0; omega) | (simp [vS]; omega))) (by show some (rfA A 12 (U 16 x.toNat)) = _; rw [rfA_1 n1]) ?_
    refine t_enum X 5 (by decide) rfl q2031 ?_
    refine t_callV X [] [] rfl mX1_258 (tc_become z.2.1 EV (b := (U 16 x.toNat)) (x := 5) (by first | omega | (show 0 ≤ _ ∧ _ < U 42 0; omega)) (by first | omega | (show U 42 0 ≤ 40; omega)) (by decide) (by first | omega | (show 0 ≤ U 23 _ ∧ U 23 _ ≤ 30; omega)) (uR24 hI (b := (U 16 x.toNat)) (by omega) (by omega))) (fun M h _ => ⟨_, _, h.1 (12, ((U 16 x.toNat).toNat)) _ (sC_12 (by first | omega | (show _ < U 42 0; omega) | (simp [vS]; omega)))⟩) rfl rfl (fun t h => by rcases h with h | h | h <;> (try rw [h]) <;> first | (show ¬ (_ : Nat) = 9; omega) | (show ¬ t.1 = 9; omega)) (fun _ h => by cases h) rfl rfl (Nat.le_of_ble_eq_true rfl) (gFit.of hR (by decide) (Nat.le_of_ble_eq_true rfl) (Nat.le_of_ble_eq_true rfl)) (fun _ h => h.elim) (fun v9 A9 U9 L9 h9 => ?_)
    obtain ⟨rfl, h7, h8, -⟩ := h9
    obtain rfl := h7.symm
    subst h8
    refine t_drop ?_
    have g24_41 : (uBec U (U 16 x.toNat) 5) 41 0 = U 41 0 := uBec_k (by decide) (by decide)
    have g24_42 : (uBec U (U 16 x.toNat) 5) 42 0 = U 42 0 := uBec_k (by decide) (by decide)
    have g24_43 : (uBec U (U 16 x.toNat) 5) 43 0 = U 43 0 := uBec_k (by decide) (by decide)
    have g24_45 : (uBec U (U 16 x.toNat) 5) 45 0 = U 45 0 := uBec_k (by decide) (by decide)
    have g24_46 : (uBec U (U 16 x.toNat) 5) 46 0 = U 46 0 := uBec_k (by decide) (by decide)
    refine t_eq (st' := [.int (iI (U 23 (U 16 x.toNat).toNat))]) rfl rfl ?_
    refine t_run X 2 (pc1 := 29) (ls1 := [_, _, _, _]) (st1 := [_]) rfl ?_
    refine t_callV X [] [] rfl mX1_284 (tc_endC z.2.1 EV (c := x) (by first | omega | (show 0 ≤ _ ∧ _ < U 43 0; omega) | (simp [vS]; omega)) (by first | omega | (show 0 ≤ U 31 _ ∧ U 31 _ ≤ 2; omega) | (have e1 : (uBec U (U 16 x.toNat) 5) 31 x.toNat = U 31 x.toNat := (uBec_k (by decide) (by decide)); show 0 ≤ (uBec U (U 16 x.toNat) 5) 31 _ ∧ (uBec U (U 16 x.toNat) 5) 31 _ ≤ 2; omega)) (fun k9 h0 h1 => by have e1 : (uBec U (U 16 x.toNat) 5) 31 x.toNat = U 31 x.toNat := (uBec_k (by decide) (by decide)); have e2 : ∀ i, (uBec U (U 16 x.toNat) 5) 32 i = U 32 i := (fun i => uBec_k (by decide) (by decide)); have h2 : k9 < (uBec U (U 16 x.toNat) 5) 31 x.toNat := h1; show 0 ≤ (uBec U (U 16 x.toNat) 5) 32 _ ∧ (uBec U (U 16 x.toNat) 5) 32 _ < 6; rw [e2]; exact uR32 hI (c := x) (by omega) (by omega) k9 h0 (by omega))) (fun M h _ => ⟨_, _, h.1 (13, (x.toNat)) _ (sC_13 (by first | omega | (show _ < U 43 0; omega) | (simp [vS]; omega)))⟩) rfl rfl (fun t h => by rcases h with h | h | h <;> (try rw [h]) <;> first | (show ¬ (_ : Nat) = 9; omega) | (show ¬ t.1 = 9; omega)) (fun _ h => by cases h) rfl rfl (Nat.le_of_ble_eq_true rfl) (gFit.of hR (by decide) (Nat.le_of_ble_eq_true rfl) (Nat.le_of_ble_eq_true rfl)) (fun _ h => h.elim) (fun v9 A9 U9 L9 h9 => ?_)
    obtain ⟨rfl, h7, h8, -⟩ := h9
    obtain rfl := h7.symm
    subst h8
    refine t_drop ?_
    have g29_41 : (uEnd (uBec U (U 16 x.toNat) 5) x) 41 0 = U 41 0 := (uEnd_k (by decide) (by decide) (by decide)).trans (by show (uBec U (U 16 x.toNat) 5) 41 0 = _; exact uBec_k (by decide) (by decide))
    have g29_42 : (uEnd (uBec U (U 16 x.toNat) 5) x) 42 0 = U 42 0 := (uEnd_k (by decide) (by decide) (by decide)).trans (by show (uBec U (U 16 x.toNat) 5) 42 0 = _; exact uBec_k (by decide) (by decide))
    have g29_43 : (uEnd (uBec U (U 16 x.toNat) 5) x) 43 0 = U 43 0 := (uEnd_k (by decide) (by decide) (by decide)).trans (by show (uBec U (U 16 x.toNat) 5) 43 0 = _; exact uBec_k (by decide) (by decide))
    have g29_45 : (uEnd (uBec U (U 16 x.toNat) 5) x) 45 0 = U 45 0 := (uEnd_k (by decide) (by decide) (by decide)).trans (by show (uBec U (U 16 x.toNat) 5) 45 0 = _; exact uBec_k (by decide) (by decide))
    have g29_46 : (uEnd (uBec U (U 16 x.toNat) 5) x) 46 0 = U 46 0 := (uEnd_k (by decide) (by decide) (by decide)).trans (by show (uBec U (U 16 x.toNat) 5) 46 0 = _; exact uBec_k (by decide) (by decide))
    refine t_eq (st' := []) rfl rfl ?_
    refine t_run X 1 (pc1 := 33) (ls1 := [_, _, _, _]) (st1 := [_]) rfl ?_
    exact t_iret X hQ rfl rfl (by omega) (by omega) ⟨⟨by rw [uHang, if_neg (by omega)], rfl, by rw [uHang, if_neg (by omega)], rfl⟩, by omega⟩
