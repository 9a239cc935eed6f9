/-! THE SYSTEM's methods walked: simple writes -/
set_option maxHeartbeats 1000000 in
theorem tc_stateU (l : Launch) (EV : gEV) {A : gAd} {U : gV} {x : Int} (hx : inR x) (hI : uI U) : TC l yX1_state cX1_state 2 (some .int) 8 1 6 EV tF [.ref (A 10 0), .int (iI x)] A U [] (fun w A9 U9 L9 => rV (some (.int (iI (U 18 x.toNat)))) A U [] w A9 U9 L9 ∧ 0 ≤ x ∧ x < U 17 0) (fun E => E = cIOB ∧ ¬ (0 ≤ x ∧ x < U 17 0)) := by
  refine t_body tbX1_state tkX1_state (by decide) (by intro v hv; simp only [List.mem_cons, List.not_mem_nil, or_false] at hv; rcases hv with rfl | rfl <;> rfl) (Nat.le_of_ble_eq_true rfl) (fun M0 z Q X hl hR hQ hE => ?_)
  subst hl
  have hu := uIs hI
  unfold uS at hu
  refine t_eq (ls' := [some (.ref (A 10 0)), some (.int (iI x))]) (st' := []) rfl rfl ?_
  refine t_run X 2 (pc1 := 2) (ls1 := [_, _]) (st1 := [_, _]) rfl ?_
  refine t_callV X [] [] rfl mX1_264 (tc_bookingOf z.2.1 EV (x := x) (by omega) hI) (fun M h _ => ⟨_, _, h.1 (10, 0) _ sC_10⟩) rfl rfl (fun _ h => h.elim) (fun _ h => by cases h) rfl rfl (Nat.le_of_ble_eq_true rfl) (gFit.of hR (by decide) (Nat.le_of_ble_eq_true rfl) (Nat.le_of_ble_eq_true rfl)) (fun E h => t_out X hQ hE (by omega) (by omega) ⟨h.1, by have h2 := h.2; omega⟩) (fun v9 A9 U9 L9 h9 => ?_)
  obtain ⟨⟨rfl, h7, h8, rfl⟩, l2⟩ := h9
  obtain rfl := h7.symm
  obtain rfl := h8.symm
  refine t_eq (st' := [.ref (A 12 (x.toNat))]) rfl rfl ?_
  have b := uIb hI (j := x) (by omega) (by omega)
  refine t_get X (12, (x.toNat)) (v := .ref (EV.2.2.2 (10 + (U 18 x.toNat).toNat))) rfl fX1_268 (sC_12 (by first | omega | (show _ < U 42 0; omega))) rfl ?_
  refine t_ordinal X rfl (i := (U 18 x.toNat).toNat) (by omega) rfl (Nat.le_of_ble_eq_true rfl) (gFit.of hR (by decide) (by omega) (by omega)) ?_
  refine t_eq (st' := [.int (iI (U 18 x.toNat))]) rfl (by rw [show ((((U 18 x.toNat).toNat : Nat)) : Int) = (U 18 x.toNat) by omega]) ?_
  exact t_iret X hQ rfl rfl (by omega) (by omega) ⟨⟨rfl, rfl, rfl, rfl⟩, by omega⟩
set_option maxHeartbeats 1000000 in
theorem tc_lapsesU (l : Launch) (EV : gEV) {A : gAd} {U : gV} {x : Int} (hx : inR x) (hI : uI U) : TC l yX1_lapses cX1_lapses 3 (some .int) 8 2 12 EV tF [.ref (A 10 0), .int (iI x)] A U [] (fun w A9 U9 L9 => rV (some (.int (iI (U 22 x.toNat - U 1 0)))) A U [] w A9 U9 L9 ∧ (0 ≤ x ∧ x < U 17 0) ∧ U 18 x.toNat = 1) (fun E => E = cIOB ∧ ¬ (0 ≤ x ∧ x < U 17 0) ∨ E = cISE ∧ (0 ≤ x ∧ x < U 17 0) ∧ ¬ U 18 x.toNat = 1) := by
  refine t_body tbX1_lapses tkX1_lapses (by decide) (by intro v hv; simp only [List.mem_cons, List.not_mem_nil, or_false] at hv; rcases hv with rfl | rfl <;> rfl) (Nat.le_of_ble_eq_true rfl) (fun M0 z Q X hl hR hQ hE => ?_)
  subst hl
  have hu := uIs hI
  unfold uS at hu
  refine t_eq (ls' := [some (.ref (A 10 0)), some (.int (iI x)), none]) (st' := []) rfl rfl ?_
  refine t_run X 2 (pc1 := 2) (ls1 := [_, _, _]) (st1 := [_, _]) rfl ?_
  refine t_callV X [] [] rfl mX1_264 (tc_bookingOf z.2.1 EV (x := x) (by omega) hI) (fun M h _ => ⟨_, _, h.1 (10, 0) _ sC_10⟩) rfl rfl (fun _ h => h.elim) (fun _ h => by cases h) rfl rfl (Nat.le_of_ble_eq_true rfl) (gFit.of hR (by decide) (Nat.le_of_ble_eq_true rfl) (Nat.le_of_ble_eq_true rfl)) (fun E h => t_out X hQ hE (by omega) (by omega) (Or.inl h)) (fun v9 A9 U9 L9 h9 => ?_)
  obtain ⟨⟨rfl, h7, h8, rfl⟩, l2⟩ := h9
  obtain rfl := h7.symm
  obtain rfl := h8.symm
  refine t_eq (st' := [.ref (A 12 (x.toNat))]) rfl rfl ?_
  have b := uIb hI (j := x) (by omega) (by omega)
  refine t_run X 2 (pc1 := 7) (ls1 := [_, _, _]) (st1 := [_]) rfl ?_
  refine t_get X (12, (x.toNat)) (v := .ref (EV.2.2.2 (10 + (U 18 x.toNat).toNat))) rfl fX1_268 (sC_12 (by first | omega | (show _ < U 42 0; omega))) rfl ?_
  refine t_enum X 1 (by decide) rfl q2018 ?_
  refine t_ecmp X (i := (U 18 x.toNat).toNat) (j := 1) (by omega) (by decide) rfl rfl (fun b9 => ?_) (fun b9 => ?_)
  · have c13 : ¬ (U 18 x.toNat) = 1 := by omega
    refine t_run X 1 (pc1 := 21) (ls1 := [_, _, _]) (st1 := [_]) rfl ?_
    refine t_eq (st' := [.int (iI (bI (False)))]) rfl rfl ?_
    refine t_callS X [] [] rfl mX1_154 (tc_allowed z.2.1 EV (False)) rfl rfl (fun _ h => h.elim) (fun _ _ h => h) rfl rfl (Nat.le_of_ble_eq_true rfl) (gFit.of hR (by decide) (Nat.le_of_ble_eq_true rfl) (Nat.le_of_ble_eq_true rfl)) (fun E h => t_out X hQ hE (by omega) (by omega) (Or.inr ⟨h.1, by omega, by have h2 := h.2; omega⟩)) (fun v9 A9 U9 L9 h9 => ?_)
    exact h9.2.elim
  · have c13 : (U 18 x.toNat) = 1 := by omega
    refine t_run X 2 (pc1 := 21) (ls1 := [_, _, _]) (st1 := [_]) rfl ?_
    refine t_eq (st' := [.int (iI (bI (True)))]) rfl rfl ?_
    refine t_callS X [] [] rfl mX1_154 (tc_allowed z.2.1 EV (True)) rfl rfl (fun _ h => h.elim) (fun _ _ h => h) rfl rfl (Nat.le_of_ble_eq_true rfl) (gFit.of hR (by decide) (Nat.le_of_ble_eq_true rfl) (Nat.le_of_ble_eq_true rfl)) (fun E h => (h.2 trivial).elim) (fun v9 A9 U9 L9 h9 => ?_)
    obtain ⟨⟨rfl, h7, h8, rfl⟩, -⟩ := h9
    obtain rfl := h7.symm
    obtain rfl := h8.symm
    refine t_eq (st' := []) rfl rfl ?_
    refine t_run X 1 (pc1 := 25) (ls1 := [_, _, _]) (st1 := [_]) rfl ?_
    refine t_get X (12, (x.toNat)) (v := .int (iI (U 22 x.toNat))) rfl fX1_304 (sC_12 (by first | omega | (show _ < U 42 0; omega))) rfl ?_
    refine t_run X 1 (pc1 := 29) (ls1 := [_, _, _]) (st1 := [_, _]) rfl ?_
    refine t_get X (10, 0) (v := .int (iI (U 1 0))) rfl fX1_301 sC_10 rfl ?_
    refine t_run X 1 (pc1 := 33) (ls1 := [_, _, _]) (st1 := [_]) rfl ?_
    refine t_eq (ls' := [some (.ref (A 10 0)), some (.int (iI x)), some (.ref (A 12 (x.toNat)))]) (st' := [.int (iI ((U 22 x.toNat) - (U 1 0)))]) (by simp only [iI_add, iI_sub, iI_mul, iI_neg]) (by simp only [iI_add, iI_sub, iI_mul, iI_neg]) ?_
    exact t_iret X hQ rfl rfl (by omega) (by omega) ⟨⟨rfl, rfl, rfl, rfl⟩, by omega⟩
set_option maxHeartbeats 1000000 in
theorem tc_callOfU (l : Launch) (EV : gEV) {A : gAd} {U : gV} {c : Int} (hc : inR c) (hI : uI U) : TC l yX1_callOf cX1_callOf 2 (some .int) 8 2 12 EV tSys [.ref (A 10 0), .int (iI c)] A U [] (fun w A9 U9 L9 => rV (some (.int (iI (uCN U c (U 11 0).toNat)))) A U [] w A9 U9 L9 ∧ 0 ≤ c ∧ c ≤ 5) (fun E => E = cIAE ∧ ¬ (0 ≤ c ∧ c ≤ 5)) := by
  refine t_body tbX1_callOf tkX1_callOf (by decide) (by intro v hv; simp only [List.mem_cons, List.not_mem_nil, or_false] at hv; rcases hv with rfl | rfl <;> rfl) (Nat.le_of_ble_eq_true rfl) (fun M0 z Q X hl hR hQ hE => ?_)
  subst hl
  have hu := uIs hI
  unfold uS at hu
  refine t_eq (ls' := [some (.ref (A 10 0)), some (.int (iI c))]) (st' := []) rfl rfl ?_
  refine t_run X 3 (pc1 := 3) (ls1 := [_, _]) (st1 := [_, _, _]) rfl ?_
  refine t_callS X [] [] rfl mX1_139 (tc_limited z.2.1 EV (v := c) (lo := 0) (hi := 5) (by omega) (by omega) (by omega)) rfl rfl (fun _ h => h.elim) (fun _ h => by cases h) rfl rfl (Nat.le_of_ble_eq_true rfl) (gFit.of hR (by decide) (Nat.le_of_ble_eq_true rfl) (Nat.le_of_ble_eq_true rfl)) (fun E h => t_out X hQ hE (by omega) (by omega) ⟨h.1, by have h2 := h.2; omega⟩) (fun v9 A9 U9 L9 h9 => ?_)
  obtain ⟨⟨rfl, h7, h8, rfl⟩, l3⟩ := h9
  obtain rfl := h7.symm
  obtain rfl := h8.symm
  refine t_eq (st' := []) rfl rfl ?_
  refine t_run X 2 (pc1 := 8) (ls1 := [_, _]) (st1 := [_, _]) rfl ?_
  refine t_callV X [] [] rfl mX1_219 (tc_callNow z.2.1 EV (c := c) (by omega) hI) (fun M h _ => ⟨_, _, h.1 (10, 0) _ sC_10⟩) rfl rfl (fun _ h => by rw [h]; show ¬ (_ : Nat) = 9; decide) (fun _ h => by cases h) rfl rfl (Nat.le_of_ble_eq_true rfl) (gFit.of hR (by decide) (Nat.le_of_ble_eq_true rfl) (Nat.le_of_ble_eq_true rfl)) (fun _ h => h.elim) (fun v9 A9 U9 L9 h9 => ?_)
  obtain ⟨rfl, h7, h8, -⟩ := h9
  obtain rfl := h7.symm
  obtain rfl := h8.symm
  refine t_drop ?_
  have bcn := uCN_r U c (U 11 0).toNat
  refine t_eq (st' := [.int (iI (uCN U c (U 11 0).toNat))]) rfl rfl ?_
  exact t_iret X hQ rfl rfl (by omega) (by omega) ⟨⟨rfl, rfl, rfl, rfl⟩, by omega⟩
set_option maxHeartbeats 1000000 in
theorem tc_setLinesU (l : Launch) (EV : gEV) {A : gAd} {U : gV} {y q : Int} (hy : inR y) (hq : inR q) (hI : uI U) : TC l yX1_setLines cX1_setLines 4 (some .int) 8 4 24 EV tSys [.ref (A 10 0), .int (iI y), .int (iI q)] A U [] (fun w A9 U9 L9 => rV (some (.int (iI (U 10 y.toNat)))) A (vS U 10 y.toNat q) [] w A9 U9 L9 ∧ isYd y ∧ (0 ≤ q ∧ q ≤ 3) ∧ uIU U y (U 11 0).toNat ≤ q) (fun E => E = cIAE ∧ ¬ (isYd y ∧ 0 ≤ q ∧ q ≤ 3) ∨ E = cISE ∧ (isYd y ∧ 0 ≤ q ∧ q ≤ 3) ∧ q < uIU U y (U 11 0).toNat) := by
  refine t_body tbX1_setLines tkX1_setLines (by decide) (by intro v hv; simp only [List.mem_cons, List.not_mem_nil, or_false] at hv; rcases hv with rfl | rfl | rfl <;> rfl) (Nat.le_of_ble_eq_true rfl) (fun M0 z Q X hl hR hQ hE => ?_)
  subst hl
  have hu := uIs hI
  unfold uS at hu
  refine t_eq (ls' := [some (.ref (A 10 0)), some (.int (iI y)), some (.int (iI q)), none]) (st' := []) rfl rfl ?_
  refine t_run X 3 (pc1 := 3) (ls1 := [_, _, _, _]) (st1 := [_, _, _]) rfl ?_
  refine t_callS X [] [] rfl mX1_139 (tc_limited z.2.1 EV (v := y) (lo := 0) (hi := 2) (by omega) (by omega) (by omega)) rfl rfl (fun _ h => h.elim) (fun _ h => by cases h) rfl rfl (Nat.le_of_ble_eq_true rfl) (gFit.of hR (by decide) (Nat.le_of_ble_eq_true rfl) (Nat.le_of_ble_eq_true rfl)) (fun E h => t_out X hQ hE (by omega) (by omega) (Or.inl ⟨h.1, by have h2 := h.2; omega⟩)) (fun v9 A9 U9 L9 h9 => ?_)
  obtain ⟨⟨rfl, h7, h8, rfl⟩, l3⟩ := h9
  obtain rfl := h7.symm
  obtain rfl := h8.symm
  refine t_eq (st' := []) rfl rfl ?_
  refine t_run X 3 (pc1 := 9) (ls1 := [_, _, _, _]) (st1 := [_, _, _]) rfl ?_
  refine t_callS X [] [] rfl mX1_139 (tc_limited z.2.1 EV (v := q) (lo := 0) (hi := 3) (by omega) (by omega) (by omega)) rfl rfl (fun _ h => h.elim) (fun _ h => by cases h) rfl rfl (Nat.le_of_ble_eq_true rfl) (gFit.of hR (by decide) (Nat.le_of_ble_eq_true rfl) (Nat.le_of_ble_eq_true rfl)) (fun E h => t_out X hQ hE (by omega) (by omega) (Or.inl ⟨h.1, by have h2 := h.2; omega⟩)) (fun v9 A9 U9 L9 h9 => ?_)
  obtain ⟨⟨rfl, h7, h8, rfl⟩, l9⟩ := h9
  obtain rfl := h7.symm
  obtain rfl := h8.symm
  refine t_eq (st' := []) rfl rfl ?_
  refine t_run X 2 (pc1 := 14) (ls1 := [_, _, _, _]) (st1 := [_, _]) rfl ?_
  refine t_callV X [] [] rfl mX1_223 (tc_inUse z.2.1 EV (y := y) (by omega) hI) (fun M h _ => ⟨_, _, h.1 (10, 0) _ sC_10⟩) rfl rfl (fun _ h => by rw [h]; show ¬ (_ : Nat) = 9; decide) (fun _ h => by cases h) rfl rfl (Nat.le_of_ble_eq_true rfl) (gFit.of hR (by decide) (Nat.le_of_ble_eq_true rfl) (Nat.le_of_ble_eq_true rfl)) (fun _ h => h.elim) (fun v9 A9 U9 L9 h9 => ?_)
  obtain ⟨rfl, h7, h8, -⟩ := h9
  obtain rfl := h7.symm
  obtain rfl := h8.symm
  refine t_drop ?_
  have biu := uIU_r U y (U 11 0).toNat
  refine t_eq (st' := [.int (iI (uIU U y (U 11 0).toNat))]) rfl rfl ?_
  refine t_run X 1 (pc1 := 18) (ls1 := [_, _, _, _]) (st1 := [_, _]) rfl ?_
  refine t_br X (pc1 := 25) (st1 := []) rfl (fun b9 => ?_) (fun b9 => ?_)
  · have c18 : q < (uIU U y (U 11 0).toNat) := cLt b9 (by omega) (by omega)
    refine t_run X 1 (pc1 := 26) (ls1 := [_, _, _, _]) (st1 := [_]) rfl ?_
    refine t_eq (st' := [.int (iI (bI (False)))]) rfl rfl ?_
    refine t_callS X [] [] rfl mX1_154 (tc_allowed z.2.1 EV (False)) rfl rfl (fun _ h => h.elim) (fun _ _ h => h) rfl rfl (Nat.le_of_ble_eq_true rfl) (gFit.of hR (by decide) (Nat.le_of_ble_eq_true rfl) (Nat.le_of_ble_eq_true rfl)) (fun E h => t_out X hQ hE (by omega) (by omega) (Or.inr ⟨h.1, by omega, by have h2 := h.2; omega⟩)) (fun v9 A9 U9 L9 h9 => ?_)
    exact h9.2.elim
  · have c18 : (uIU U y (U 11 0).toNat) ≤ q := cNl b9 (by omega) (by omega)
    refine t_run X 2 (pc1 := 26) (ls1 := [_, _, _, _]) (st1 := [_]) rfl ?_
    refine t_eq (st' := [.int (iI (bI (True)))]) rfl rfl ?_
    refine t_callS X [] [] rfl mX1_154 (tc_allowed z.2.1 EV (True)) rfl rfl (fun _ h => h.elim) (fun _ _ h => h) rfl rfl (Nat.le_of_ble_eq_true rfl) (gFit.of hR (by decide) (Nat.le_of_ble_eq_true rfl) (Nat.le_of_ble_eq_true rfl)) (fun E h => (h.2 trivial).elim) (fun v9 A9 U9 L9 h9 => ?_)
    obtain ⟨⟨rfl, h7, h8, rfl⟩, -⟩ := h9
    obtain rfl := h7.symm
    obtain rfl := h8.symm
    refine t_eq (st' := []) rfl rfl ?_
    refine t_run X 1 (pc1 := 30) (ls1 := [_, _, _, _]) (st1 := [_]) rfl ?_
    refine t_get X (10, 0) (v := .ref (A 19 0)) rfl fX1_31 sC_10 rfl ?_
    refine t_run X 1 (pc1 := 34) (ls1 := [_, _, _, _]) (st1 := [_, _]) rfl ?_
    refine t_iald X (19, 0) (v := iI (U 10 y.toNat)) rfl sC_19 (gIx_i (by omega) (by omega)) rfl ?_
    refine t_run X 2 (pc1 := 37) (ls1 := [_, _, _, _]) (st1 := [_]) rfl ?_
    refine t_get X (10, 0) (v := .ref (A 19 0)) rfl fX1_31 sC_10 rfl ?_
    refine t_run X 2 (pc1 := 42) (ls1 := [_, _, _, _]) (st1 := [_, _, _]) rfl ?_
    refine t_pu10 X (i := y) (x := q) rfl (by omega) (show ¬ (19 : Nat) = 9 by decide) (fun _ h => nomatch h) ?_
    refine t_run X 1 (pc1 := 44) (ls1 := [_, _, _, _]) (st1 := [_]) rfl ?_
    exact t_iret X hQ rfl rfl (by omega) (by omega) ⟨⟨rfl, rfl, rfl, rfl⟩, by omega⟩
set_option maxHeartbeats 1000000 in
theorem tc_washU (l : Launch) (EV : gEV) {A : gAd} {U : gV} {y : Int} (hy : inR y) (hI : uI U) : TC l yX1_wash cX1_wash 4 (some .int) 8 3 18 EV tSys [.ref (A 10 0), .int (iI y)] A U [] (fun w A9 U9 L9 => rV (some (.int (iI (U 4 (U 7 (6 * (5 * y + 0) + (U 6 (5 * y + 0).toNat - 1)).toNat).toNat)))) A (vS U 4 (U 7 (6 * (5 * y + 0) + (U 6 (5 * y + 0).toNat - 1)).toNat).toNat (-1)) [] w A9 U9 L9 ∧ isYd y ∧ ¬ U 6 (5 * y + 0).toNat = 0) (fun E => E = cIAE ∧ ¬ isYd y ∨ E = cISE ∧ isYd y ∧ U 6 (5 * y + 0).toNat = 0) := by
  refine t_body tbX1_wash tkX1_wash (by decide) (by intro v hv; simp only [List.mem_cons, List.not_mem_nil, or_false] at hv; rcases hv with rfl | rfl <;> rfl) (Nat.le_of_ble_eq_true rfl) (fun M0 z Q X hl hR hQ hE => ?_)
  subst hl
  have hu := uIs hI
  unfold uS at hu
  refine t_eq (ls' := [some (.ref (A 10 0)), some (.int (iI y)), none, none]) (st' := []) rfl rfl ?_
  refine t_run X 1 (pc1 := 1) (ls1 := [_, _, _, _]) (st1 := [_]) rfl ?_
  refine t_get X (10, 0) (v := .ref (A 30 0)) rfl fX1_10 sC_10 rfl ?_
  refine t_run X 2 (pc1 := 6) (ls1 := [_, _, _, _]) (st1 := [_, _, _]) rfl ?_
  refine t_callS X [] [] rfl mX1_160 (tc_trackOf z.2.1 EV (y := y) (t := 0) (by omega) (by omega)) rfl rfl (fun _ h => h.elim) (fun _ h => by cases h) rfl rfl (Nat.le_of_ble_eq_true rfl) (gFit.of hR (by decide) (Nat.le_of_ble_eq_true rfl) (Nat.le_of_ble_eq_true rfl)) (fun E h => t_out X hQ hE (by omega) (by omega) (Or.inl ⟨h.1, by have h2 := h.2; omega⟩)) (fun v9 A9 U9 L9 h9 => ?_)
  obtain ⟨⟨rfl, h7, h8, rfl⟩, l6⟩ := h9
  obtain rfl := h7.symm
  obtain rfl := h8.symm
  refine t_eq (st' := [.int (iI (5 * y + 0)), .ref (A 30 0)]) rfl rfl ?_
  have b6 := uI6 hI (j := 5 * y + 0) (by omega) (by omega)
  refine t_callV X [] [] rfl mX1_74 (tc_alget z.2.1 EV (i := 0) (by unfold alL; omega) (by show (15 : Int) ≤ 100; omega) (x := (5 * y + 0)) (by show 0 ≤ (5 * y + 0) ∧ (5 * y + 0) < (15 : Int); omega)) (fun M h _ => gAL_at (h.2.1 0 (by unfold alL; omega))) rfl rfl (fun _ h => h.elim) (fun _ _ h => h) rfl rfl (Nat.le_of_ble_eq_true rfl) (gFit.of hR (by decide) (Nat.le_of_ble_eq_true rfl) (Nat.le_of_ble_eq_true rfl)) (fun _ h => h.elim) (fun v9 A9 U9 L9 h9 => ?_)
  obtain ⟨rfl, h7, h8, rfl⟩ := h9
  obtain rfl := h7.symm
  obtain rfl := h8.symm
  refine t_eq (st' := [.ref (A 24 ((5 * y + 0).toNat))]) rfl rfl ?_
  refine t_cast X rfl kX1_47_2 (fun M h _ => gLk_at (h.2.2 ((5 * y + 0).toNat) (by unfold llL; first | omega | (show _ ∨ _ < U 45 0; omega)))) ?_
  refine t_run X 2 (pc1 := 17) (ls1 := [_, _, _, _]) (st1 := [_]) rfl ?_
  refine t_callU X [] [] rfl mX1_192_2 (tc_llemptyT z.2.1 EV (p := (5 * y + 0)) (by omega) (by omega)) (fun M h _ => gLk_at (h.2.2 ((5 * y + 0).toNat) (by unfold llL; first | omega | (show _ ∨ _ < U 45 0; omega)))) rfl rfl (fun _ h => h.elim) (fun _ _ h => h) rfl rfl (Nat.le_of_ble_eq_true rfl) (gFit.of hR (by decide) (Nat.le_of_ble_eq_true rfl) (Nat.le_of_ble_eq_true rfl)) (fun _ h => h.elim) (fun v9 A9 U9 L9 h9 => ?_)
  obtain ⟨rfl, h7, h8, rfl⟩ := h9
  obtain rfl := h7.symm
  obtain rfl := h8.symm
  refine t_eq (st' := [.int (iI (bI (U 6 (5 * y + 0).toNat = 0)))]) rfl rfl ?_
  refine t_br X (pc1 := 27) (st1 := []) rfl (fun b9 => ?_) (fun b9 => ?_)
  · have c20 : U 6 (5 * y + 0).toNat = 0 := bI_t b9
    refine t_run X 1 (pc1 := 28) (ls1 := [_, _, _, _]) (st1 := [_]) rfl ?_
    refine t_eq (st' := [.int (iI (bI (False)))]) rfl rfl ?_
    refine t_callS X [] [] rfl mX1_154 (tc_allowed z.2.1 EV (False)) rfl rfl (fun _ h => h.elim) (fun _ _ h => h) rfl rfl (Nat.le_of_ble_eq_true rfl) (gFit.of hR (by decide) (Nat.le_of_ble_eq_true rfl) (Nat.le_of_ble_eq_true rfl)) (fun E h => t_out X hQ hE (by omega) (by omega) (Or.inr ⟨h.1, by omega, by have h2 := h.2; omega⟩)) (fun v9 A9 U9 L9 h9 => ?_)
    exact h9.2.elim
  · have c20 : ¬ (U 6 (5 * y + 0).toNat = 0) := bI_f b9
    refine t_run X 2 (pc1 := 28) (ls1 := [_, _, _, _]) (st1 := [_]) rfl ?_
    refine t_eq (st' := [.int (iI (bI (True)))]) rfl rfl ?_
    refine t_callS X [] [] rfl mX1_154 (tc_allowed z.2.1 EV (True)) rfl rfl (fun _ h => h.elim) (fun _ _ h => h) rfl rfl (Nat.le_of_ble_eq_true rfl) (gFit.of hR (by decide) (Nat.le_of_ble_eq_true rfl) (Nat.le_of_ble_eq_true rfl)) (fun E h => (h.2 trivial).elim) (fun v9 A9 U9 L9 h9 => ?_)
    obtain ⟨⟨rfl, h7, h8, rfl⟩, -⟩ := h9
    obtain rfl := h7.symm
    obtain rfl := h8.symm
    refine t_eq (st' := []) rfl rfl ?_
    refine t_run X 1 (pc1 := 32) (ls1 := [_, _, _, _]) (st1 := [_]) rfl ?_
    have b7 := uI7 hI (a := 5 * y + 0) (k := U 6 (5 * y + 0).toNat - 1) (by omega) (by omega) (by omega) (by omega)
    refine t_callV X [] [] rfl mX1_195 (tc_lllastT z.2.1 EV (p := (5 * y + 0)) (by omega) (by omega)) (fun M h _ => gLk_at (h.2.2 ((5 * y + 0).toNat) (by unfold llL; first | omega | (show _ ∨ _ < U 45 0; omega)))) rfl rfl (fun _ h => h.elim) (fun _ _ h => h) rfl rfl (Nat.le_of_ble_eq_true rfl) (gFit.of hR (by decide) (Nat.le_of_ble_eq_true rfl) (Nat.le_of_ble_eq_true rfl)) (fun _ h => h.elim) (fun v9 A9 U9 L9 h9 => ?_)
    obtain ⟨rfl, h7, h8, rfl⟩ := h9
    obtain rfl := h7.symm
    obtain rfl := h8.symm
    refine t_eq (st' := [.ref (A 11 ((U 7 (6 * (5 * y + 0) + (U 6 (5 * y + 0).toNat - 1)).toNat).toNat))]) rfl rfl ?_
    have b4 := uI4 hI (j := U 7 (6 * (5 * y + 0) + (U 6 (5 * y + 0).toNat - 1)).toNat) (by omega) (by omega)
    refine t_cast X rfl kX1_69_7 (fun M h _ => ⟨_, _, h.1 (11, ((U 7 (6 * (5 * y + 0) + (U 6 (5 * y + 0).toNat - 1)).toNat).toNat)) _ (sC_11 (by first | omega | (show _ < U 41 0; omega)))⟩) ?_
    refine t_get X (11, ((U 7 (6 * (5 * y + 0) + (U 6 (5 * y + 0).toNat - 1)).toNat).toNat)) (v := .int (iI (U 4 (U 7 (6 * (5 * y + 0) + (U 6 (5 * y + 0).toNat - 1)).toNat).toNat))) rfl fX1_68 (sC_11 (by first | omega | (show _ < U 41 0; omega))) rfl ?_
    refine t_run X 2 (pc1 := 43) (ls1 := [_, _, _, _]) (st1 := [_]) rfl ?_
    refine t_callV X [] [] rfl mX1_195 (tc_lllastT z.2.1 EV (p := (5 * y + 0)) (by omega) (by omega)) (fun M h _ => gLk_at (h.2.2 ((5 * y + 0).toNat) (by unfold llL; first | omega | (show _ ∨ _ < U 45 0; omega)))) rfl rfl (fun _ h => h.elim) (fun _ _ h => h) rfl rfl (Nat.le_of_ble_eq_true rfl) (gFit.of hR (by decide) (Nat.le_of_ble_eq_true rfl) (Nat.le_of_ble_eq_true rfl)) (fun _ h => h.elim) (fun v9 A9 U9 L9 h9 => ?_)
    obtain ⟨rfl, h7, h8, rfl⟩ := h9
    obtain rfl := h7.symm
    obtain rfl := h8.symm
    refine t_eq (st' := [.ref (A 11 ((U 7 (6 * (5 * y + 0) + (U 6 (5 * y + 0).toNat - 1)).toNat).toNat))]) rfl rfl ?_
    refine t_cast X rfl kX1_69_7 (fun M h _ => ⟨_, _, h.1 (11, ((U 7 (6 * (5 * y + 0) + (U 6 (5 * y + 0).toNat - 1)).toNat).toNat)) _ (sC_11 (by first | omega | (show _ < U 41 0; omega)))⟩) ?_
    refine t_run X 1 (pc1 := 50) (ls1 := [_, _, _, _]) (st1 := [_, _]) rfl ?_
    refine t_pu4 X (x := (-1)) rfl fX1_68 (by first | omega | (show _ < U 41 0; omega)) (show ¬ (11 : Nat) = 9 by decide) (fun _ h => nomatch h) ?_
    refine t_run X 1 (pc1 := 54) (ls1 := [_, _, _, _]) (st1 := [_]) rfl ?_
    exact t_iret X hQ rfl rfl (by omega) (by omega) ⟨⟨rfl, rfl, rfl, rfl⟩, by omega⟩
set_option maxHeartbeats 1000000 in
theorem tc_followU (l : Launch) (EV : gEV) {A : gAd} {U : gV} {f g : Int} (hf : inR f) (hg : inR g) (hI : uI U) : TC l yX1_follow cX1_follow 3 (some .boolean) 8 3 18 EV tSys [.ref (A 10 0), .int (iI f), .int (iI g)] A U [] (fun w A9 U9 L9 => rV (some (.int (iI (1 - U 8 (4 * f + g).toNat)))) A (vS U 8 (4 * f + g).toNat (1 - U 8 (4 * f + g).toNat)) [] w A9 U9 L9 ∧ isGr f ∧ isGr g ∧ ¬ f = g) (fun E => E = cIAE ∧ ¬ (isGr f ∧ isGr g ∧ ¬ f = g)) := by
  refine t_body tbX1_follow tkX1_follow (by decide) (by intro v hv; simp only [List.mem_cons, List.not_mem_nil, or_false] at hv; rcases hv with rfl | rfl | rfl <;> rfl) (Nat.le_of_ble_eq_true rfl) (fun M0 z Q X hl hR hQ hE => ?_)
  subst hl
  have hu := uIs hI
  unfold uS at hu
  refine t_eq (ls' := [some (.ref (A 10 0)), some (.int (iI f)), some (.int (iI g))]) (st' := []) rfl rfl ?_
  refine t_run X 3 (pc1 := 3) (ls1 := [_, _, _]) (st1 := [_, _, _]) rfl ?_
  refine t_callS X [] [] rfl mX1_143 (tc_unlike z.2.1 EV (x := f) (y := g) (m := 4) (by omega) (by omega) (by omega)) rfl rfl (fun _ h => h.elim) (fun _ h => by cases h) rfl rfl (Nat.le_of_ble_eq_true rfl) (gFit.of hR (by decide) (Nat.le_of_ble_eq_true rfl) (Nat.le_of_ble_eq_true rfl)) (fun E h => t_out X hQ hE (by omega) (by omega) ⟨h.1, by have h2 := h.2; omega⟩) (fun v9 A9 U9 L9 h9 => ?_)
  obtain ⟨⟨rfl, h7, h8, rfl⟩, l3⟩ := h9
  obtain rfl := h7.symm
  obtain rfl := h8.symm
  refine t_eq (st' := []) rfl rfl ?_
  refine t_run X 1 (pc1 := 7) (ls1 := [_, _, _]) (st1 := [_]) rfl ?_
  refine t_get X (10, 0) (v := .ref (A 18 0)) rfl fX1_21 sC_10 rfl ?_
  refine t_run X 1 (pc1 := 11) (ls1 := [_, _, _]) (st1 := [_, _]) rfl ?_
  refine t_aaldA X 6 (18, 0) (v := .ref (A 17 (f.toNat))) rfl rfl sC_18 (gIx_i (by omega) (by omega)) (by show va_rf (if _ < 4 then _ else _) = _; rw [if_pos (by omega)]; rfl) ?_
  refine t_run X 2 (pc1 := 14) (ls1 := [_, _, _]) (st1 := [_, _, _]) rfl ?_
  refine t_get X (10, 0) (v := .ref (A 18 0)) rfl fX1_21 sC_10 rfl ?_
  refine t_run X 1 (pc1 := 18) (ls1 := [_, _, _]) (st1 := [_, _, _, _]) rfl ?_
  refine t_aaldA X 6 (18, 0) (v := .ref (A 17 (f.toNat))) rfl rfl sC_18 (gIx_i (by omega) (by omega)) (by show va_rf (if _ < 4 then _ else _) = _; rw [if_pos (by omega)]; rfl) ?_
  refine t_run X 1 (pc1 := 20) (ls1 := [_, _, _]) (st1 := [_, _, _, _]) rfl ?_
  refine t_zald X (17, f.toNat) (v := iI (U 8 (4 * f + g).toNat)) rfl (sC_17 (by omega)) (gIx_i (by omega) (by omega)) (by show (if _ < 4 then _ else _) = _; rw [if_pos (by omega)]; have e8 : 4 * f.toNat + g.toNat = (4 * f + g).toNat := (by omega); rw [e8]) ?_
  have b8 := uI8 hI (j := 4 * f + g) (by omega) (by omega)
  refine t_br X (pc1 := 28) (st1 := [_, _]) rfl (fun b9 => ?_) (fun b9 => ?_)
  · have c21 : ¬ (U 8 (4 * f + g).toNat) = 0 := cNq b9 (by omega) (by omega)
    refine t_run X 1 (pc1 := 29) (ls1 := [_, _, _]) (st1 := [_, _, _]) rfl ?_
    refine t_pu8 X (f := f) (i := g) (x := 0) (by omega) rfl (by omega) (by omega) (show ¬ (17 : Nat) = 9 by decide) (fun _ h => nomatch h) ?_
    refine t_run X 1 (pc1 := 31) (ls1 := [_, _, _]) (st1 := [_]) rfl ?_
    refine t_get X (10, 0) (v := .ref (A 18 0)) rfl fX1_21 sC_10 rfl ?_
    refine t_run X 1 (pc1 := 35) (ls1 := [_, _, _]) (st1 := [_, _]) rfl ?_
    refine t_aaldA X 6 (18, 0) (v := .ref (A 17 (f.toNat))) rfl rfl sC_18 (gIx_i (by omega) (by omega)) (by show va_rf (if _ < 4 then _ else _) = _; rw [if_pos (by omega)]; rfl) ?_
    refine t_run X 1 (pc1 := 37) (ls1 := [_, _, _]) (st1 := [_, _]) rfl ?_
    refine t_zald X (17, f.toNat) (v := iI 0) rfl (sC_17 (by omega)) (gIx_i (by omega) (by omega)) (by show (if _ < 4 then _ else _) = _; rw [if_pos (by omega)]; have e8 : 4 * f.toNat + g.toNat = (4 * f + g).toNat := (by omega); rw [e8]; rw [vS_s]) ?_
    have e1 : 1 - U 8 (4 * f + g).toNat = 0 := by omega
    exact t_zret X hQ rfl rfl (by decide) (by omega) (by omega) ⟨⟨by rw [e1], rfl, by rw [e1], rfl⟩, by omega⟩
  · have c21 : (U 8 (4 * f + g).toNat) = 0 := cEq b9 (by omega) (by omega)
    refine t_run X 2 (pc1 := 29) (ls1 := [_, _, _]) (st1 := [_, _, _]) rfl ?_
    refine t_pu8 X (f := f) (i := g) (x := 1) (by omega) rfl (by omega) (by omega) (show ¬ (17 : Nat) = 9 by decide) (fun _ h => nomatch h) ?_
    refine t_run X 1 (pc1 := 31) (ls1 := [_, _, _]) (st1 := [_]) rfl ?_
    refine t_get X (10, 0) (v := .ref (A 18 0)) rfl fX1_21 sC_10 rfl ?_
    refine t_run X 1 (pc1 := 35) (ls1 := [_, _, _]) (st1 := [_, _]) rfl ?_
    refine t_aaldA X 6 (18, 0) (v := .ref (A 17 (f.toNat))) rfl rfl sC_18 (gIx_i (by omega) (by omega)) (by show va_rf (if _ < 4 then _ else _) = _; rw [if_pos (by omega)]; rfl) ?_
    refine t_run X 1 (pc1 := 37) (ls1 := [_, _, _]) (st1 := [_, _]) rfl ?_
    refine t_zald X (17, f.toNat) (v := iI 1) rfl (sC_17 (by omega)) (gIx_i (by omega) (by omega)) (by show (if _ < 4 then _ else _) = _; rw [if_pos (by omega)]; have e8 : 4 * f.toNat + g.toNat = (4 * f + g).toNat := (by omega); rw [e8]; rw [vS_s]) ?_
    have e1 : 1 - U 8 (4 * f + g).toNat = 1 := by omega
    exact t_zret X hQ rfl rfl (by decide) (by omega) (by omega) ⟨⟨by rw [e1], rfl, by rw [e1], rfl⟩, by omega⟩
