/-! THE SYSTEM's methods walked: a trunk is cut, time passes -/
def uCut (U : gV) (t : Int) : Int × gV := if U 9 t.toNat < 0 then (-1, vS U 30 t.toNat 1) else if U 16 (U 9 t.toNat).toNat < 0 then (U 9 t.toNat, uEnd (vS U 30 t.toNat 1) (U 9 t.toNat)) else
  (U 9 t.toNat, uEnd (vS (uBec (vS U 30 t.toNat 1) (U 16 (U 9 t.toNat).toNat) 1) 22 (U 16 (U 9 t.toNat).toNat).toNat (uBec (vS U 30 t.toNat 1) (U 16 (U 9 t.toNat).toNat) 1 1 0 + 10)) (U 9 t.toNat))
def uPa (W : gV) : Nat → Int × gV
  | 0 => (0, W)
  | b + 1 => if (uPa W b).2 18 b = 1 ∧ (uPa W b).2 22 b ≤ (uPa W b).2 1 0 then ((uPa W b).1 + 1, uBec (uPa W b).2 (b : Int) 5) else uPa W b
theorem uPa_k {W : gV} {k i : Nat} (h : k ≠ 18) (h5 : k ≠ 5) (n : Nat) : (uPa W n).2 k i = W k i := by
  induction n with
  | zero => rfl
  | succ n ih =>
    rw [uPa]
    split
    · show uBec _ _ _ k i = _
      rw [uBec_k h h5, ih]
    · exact ih
theorem uBec_18 {U : gV} {b : Int} {x i : Nat} (h : i ≠ b.toNat) : uBec U b x 18 i = U 18 i := by
  unfold uBec
  rw [uBk_k (by decide), vS_i h]
theorem uPa_18 {W : gV} {i : Nat} (n : Nat) (h : n ≤ i) : (uPa W n).2 18 i = W 18 i := by
  induction n with
  | zero => rfl
  | succ n ih =>
    rw [uPa]
    split
    · show uBec _ _ _ 18 i = _
      rw [uBec_18 (by omega), ih (by omega)]
    · exact ih (by omega)
theorem uPa_r (W : gV) (n : Nat) : 0 ≤ (uPa W n).1 ∧ (uPa W n).1 ≤ n := by
  induction n with
  | zero => simp [uPa]
  | succ n ih =>
    rw [uPa]
    split
    · show 0 ≤ (uPa W n).1 + 1 ∧ (uPa W n).1 + 1 ≤ _; omega
    · omega
def uPass (U : gV) (t : Int) : Int × gV := uPa (vS U 1 0 (U 1 0 + t)) (U 17 0).toNat
set_option maxHeartbeats 1000000 in
theorem tc_cutU (l : Launch) (EV : gEV) {A : gAd} {U : gV} {a b k : Int} (ha : inR a) (hb : inR b) (hk : inR k) (hI : uI U) : TC l yX1_cut cX1_cut 7 (some .int) 9 8 40 EV tSys [.ref (A 10 0), .int (iI a), .int (iI b), .int (iI k)] A U [] (fun w A9 U9 L9 => rV (some (.int (iI (uCut U (2 * (a + b - 1) + k)).1))) A (uCut U (2 * (a + b - 1) + k)).2 [] w A9 U9 L9 ∧ isTk a b k ∧ ¬ U 30 (2 * (a + b - 1) + k).toNat = 1) (fun E => E = cIAE ∧ ¬ isTk a b k ∨ E = cISE ∧ isTk a b k ∧ U 30 (2 * (a + b - 1) + k).toNat = 1) := by
  refine t_body tbX1_cut tkX1_cut (by decide) (by intro v hv; simp only [List.mem_cons, List.not_mem_nil, or_false] at hv; rcases hv with rfl | rfl | rfl | rfl <;> rfl) (Nat.le_of_ble_eq_true rfl) (fun M0 z Q X hl hR hQ hE => ?_)
  subst hl
  have hu := uIs hI
  unfold uS at hu
  refine t_eq (ls' := [some (.ref (A 10 0)), some (.int (iI a)), some (.int (iI b)), some (.int (iI k)), none, none, none]) (st' := []) rfl rfl ?_
  refine t_run X 4 (pc1 := 4) (ls1 := [_, _, _, _, _, _, _]) (st1 := [_, _, _, _]) rfl ?_
  refine t_callV X [] [] rfl mX1_290 (tc_trunkOf z.2.1 EV (a := a) (b := b) (k := k) (by omega) (by omega) (by omega) hI) (fun M h _ => ⟨_, _, h.1 (10, 0) _ sC_10⟩) rfl rfl (fun _ h => by rw [h]; show ¬ (_ : Nat) = 9; decide) (fun _ h => by cases h) rfl rfl (Nat.le_of_ble_eq_true rfl) (gFit.of hR (by decide) (Nat.le_of_ble_eq_true rfl) (Nat.le_of_ble_eq_true rfl)) (fun E h => t_out X hQ hE (by omega) (by omega) (Or.inl h)) (fun v9 A9 U9 L9 h9 => ?_)
  obtain ⟨rfl, h7, h8, l4⟩ := h9
  obtain rfl := h7.symm
  obtain rfl := h8.symm
  refine t_drop ?_
  have b30 := uI30 hI (j := 2 * (a + b - 1) + k) (by omega) (by omega)
  have b9k := uI9 hI (j := 2 * (a + b - 1) + k) (by omega) (by omega)
  refine t_eq (st' := [.ref (A 14 ((2 * (a + b - 1) + k).toNat))]) rfl rfl ?_
  refine t_run X 2 (pc1 := 11) (ls1 := [_, _, _, _, _, _, _]) (st1 := [_]) rfl ?_
  refine t_get X (14, ((2 * (a + b - 1) + k).toNat)) (v := .int (iI (U 30 (2 * (a + b - 1) + k).toNat))) rfl fX1_294 (sC_14 (by omega)) rfl ?_
  refine t_br X (pc1 := 21) (st1 := []) rfl (fun b9 => ?_) (fun b9 => ?_)
  · have c14 : ¬ (U 30 (2 * (a + b - 1) + k).toNat) = 0 := cNq b9 (by omega) (by omega)
    refine t_run X 1 (pc1 := 22) (ls1 := [_, _, _, _, _, _, _]) (st1 := [_]) rfl ?_
    refine t_eq (st' := [.int (iI (bI (False)))]) rfl rfl ?_
    refine t_callS X [] [] rfl mX1_154 (tc_allowed z.2.1 EV (False)) rfl rfl (fun _ h => h.elim) (fun _ _ h => h) rfl rfl (Nat.le_of_ble_eq_true rfl) (gFit.of hR (by decide) (Nat.le_of_ble_eq_true rfl) (Nat.le_of_ble_eq_true rfl)) (fun E h => t_out X hQ hE (by omega) (by omega) (Or.inr ⟨h.1, by omega, by omega⟩)) (fun v9 A9 U9 L9 h9 => ?_)
    exact h9.2.elim
  · have c14 : (U 30 (2 * (a + b - 1) + k).toNat) = 0 := cEq b9 (by omega) (by omega)
    refine t_run X 2 (pc1 := 22) (ls1 := [_, _, _, _, _, _, _]) (st1 := [_]) rfl ?_
    refine t_eq (st' := [.int (iI (bI (True)))]) rfl rfl ?_
    refine t_callS X [] [] rfl mX1_154 (tc_allowed z.2.1 EV (True)) rfl rfl (fun _ h => h.elim) (fun _ _ h => h) rfl rfl (Nat.le_of_ble_eq_true rfl) (gFit.of hR (by decide) (Nat.le_of_ble_eq_true rfl) (Nat.le_of_ble_eq_true rfl)) (fun E h => (h.2 trivial).elim) (fun v9 A9 U9 L9 h9 => ?_)
    obtain ⟨⟨rfl, h7, h8, rfl⟩, -⟩ := h9
    obtain rfl := h7.symm
    obtain rfl := h8.symm
    refine t_eq (st' := []) rfl rfl ?_
    refine t_run X 2 (pc1 := 28) (ls1 := [_, _, _, _, _, _, _]) (st1 := [_, _]) rfl ?_
    refine t_pu30 X (hb := by omega) (x := 1) rfl fX1_294 (by omega) (show ¬ (14 : Nat) = 9 by decide) (fun _ h => nomatch h) ?_
    refine t_run X 1 (pc1 := 33) (ls1 := [_, _, _, _, _, _, _]) (st1 := [_]) rfl ?_
    by_cases n1 : (U 9 (2 * (a + b - 1) + k).toNat) < 0
    · refine t_get X (14, ((2 * (a + b - 1) + k).toNat)) (v := .null) rfl fX1_297 (sC_14 (by omega)) (by show some (rfA A 13 (U 9 (2 * (a + b - 1) + k).toNat)) = _; rw [rfA_0 n1]) ?_
      refine t_run X 4 (pc1 := 44) (ls1 := [_, _, _, _, _, _, _]) (st1 := [_]) rfl ?_
      exact t_iret X hQ rfl rfl (by omega) (by omega) ⟨⟨by rw [uCut, if_pos (by omega)], rfl, by rw [uCut, if_pos (by omega)], rfl⟩, by omega⟩
    · refine t_get X (14, ((2 * (a + b - 1) + k).toNat)) (v := .ref (A 13 ((U 9 (2 * (a + b - 1) + k).toNat).toNat))) rfl fX1_297 (sC_14 (by omega)) (by show some (rfA A 13 (U 9 (2 * (a + b - 1) + k).toNat)) = _; rw [rfA_1 n1]) ?_
      refine t_run X 3 (pc1 := 45) (ls1 := [_, _, _, _, _, _, _]) (st1 := []) rfl ?_
      have b15 := uI15 hI (j := (U 9 (2 * (a + b - 1) + k).toNat)) (by omega) (by omega)
      have b16 := uI16 hI (j := (U 9 (2 * (a + b - 1) + k).toNat)) (by omega) (by omega)
      have b31 := uI31 hI (j := (U 9 (2 * (a + b - 1) + k).toNat)) (by omega) (by omega)
      refine t_run X 1 (pc1 := 47) (ls1 := [_, _, _, _, _, _, _]) (st1 := [_]) rfl ?_
      by_cases n2 : (U 16 (U 9 (2 * (a + b - 1) + k).toNat).toNat) < 0
      · refine t_get X (13, ((U 9 (2 * (a + b - 1) + k).toNat).toNat)) (v := .null) rfl fX1_236 (sC_13 (by first | omega | (show _ < U 43 0; omega) | (simp [vS]; omega))) (by show some (rfA A 12 (U 16 (U 9 (2 * (a + b - 1) + k).toNat).toNat)) = _; rw [rfA_0 n2]) ?_
        refine t_run X 2 (pc1 := 83) (ls1 := [_, _, _, _, _, _, _]) (st1 := [_]) rfl ?_
        refine t_callV X [] [] rfl mX1_284 (tc_endC z.2.1 EV (c := (U 9 (2 * (a + b - 1) + k).toNat)) (by first | omega | (show 0 ≤ _ ∧ _ < U 43 0; omega) | (simp [vS]; omega)) (by first | omega | (show 0 ≤ U 31 _ ∧ U 31 _ ≤ 2; omega) | omega) (uR32 hI (c := (U 9 (2 * (a + b - 1) + k).toNat)) (by omega) (by omega))) (fun M h _ => ⟨_, _, h.1 (13, ((U 9 (2 * (a + b - 1) + k).toNat).toNat)) _ (sC_13 (by first | omega | (show _ < U 43 0; omega) | (simp [vS]; omega)))⟩) rfl rfl (fun t h => by rcases h with h | h | h <;> (try rw [h]) <;> first | (show ¬ (_ : Nat) = 9; omega) | (show ¬ t.1 = 9; omega)) (fun _ h => by cases h) rfl rfl (Nat.le_of_ble_eq_true rfl) (gFit.of hR (by decide) (Nat.le_of_ble_eq_true rfl) (Nat.le_of_ble_eq_true rfl)) (fun _ h => h.elim) (fun v9 A9 U9 L9 h9 => ?_)
        obtain ⟨rfl, h7, h8, -⟩ := h9
        obtain rfl := h7.symm
        subst h8
        refine t_drop ?_
        have g83_41 : (uEnd (vS U 30 ((2 * (a + b - 1) + k).toNat) 1) (U 9 (2 * (a + b - 1) + k).toNat)) 41 0 = U 41 0 := (uEnd_k (by decide) (by decide) (by decide)).trans rfl
        have g83_42 : (uEnd (vS U 30 ((2 * (a + b - 1) + k).toNat) 1) (U 9 (2 * (a + b - 1) + k).toNat)) 42 0 = U 42 0 := (uEnd_k (by decide) (by decide) (by decide)).trans rfl
        have g83_43 : (uEnd (vS U 30 ((2 * (a + b - 1) + k).toNat) 1) (U 9 (2 * (a + b - 1) + k).toNat)) 43 0 = U 43 0 := (uEnd_k (by decide) (by decide) (by decide)).trans rfl
        have g83_45 : (uEnd (vS U 30 ((2 * (a + b - 1) + k).toNat) 1) (U 9 (2 * (a + b - 1) + k).toNat)) 45 0 = U 45 0 := (uEnd_k (by decide) (by decide) (by decide)).trans rfl
        have g83_46 : (uEnd (vS U 30 ((2 * (a + b - 1) + k).toNat) 1) (U 9 (2 * (a + b - 1) + k).toNat)) 46 0 = U 46 0 := (uEnd_k (by decide) (by decide) (by decide)).trans rfl
        refine t_eq (st' := []) rfl rfl ?_
        refine t_run X 1 (pc1 := 88) (ls1 := [_, _, _, _, _, _, _]) (st1 := [_]) rfl ?_
        refine t_get X (13, ((U 9 (2 * (a + b - 1) + k).toNat).toNat)) (v := .int (iI (((U 9 (2 * (a + b - 1) + k).toNat).toNat : Nat) : Int))) rfl fX1_218 (sC_13 (by first | omega | (show _ < U 43 0; omega) | (simp [vS]; omega))) rfl ?_
        exact t_iret X hQ rfl rfl (by omega) (by omega) ⟨⟨by rw [uCut, if_neg (by omega), if_pos (by omega)]; congr 3; show _ = U 9 _; omega, rfl, by rw [uCut, if_neg (by omega), if_pos (by omega)], rfl⟩, by omega⟩
      · refine t_get X (13, ((U 9 (2 * (a + b - 1) + k).toNat).toNat)) (v := .ref (A 12 ((U 16 (U 9 (2 * (a + b - 1) + k).toNat).toNat).toNat))) rfl fX1_236 (sC_13 (by first | omega | (show _ < U 43 0; omega) | (simp [vS]; omega))) (by show some (rfA A 12 (U 16 (U 9 (2 * (a + b - 1) + k).toNat).toNat)) = _; rw [rfA_1 n2]) ?_
        refine t_run X 1 (pc1 := 53) (ls1 := [_, _, _, _, _, _, _]) (st1 := []) rfl ?_
        have bb := uIb hI (j := U 16 (U 9 (2 * (a + b - 1) + k).toNat).toNat) (by omega) (by omega)
        refine t_run X 1 (pc1 := 55) (ls1 := [_, _, _, _, _, _, _]) (st1 := [_]) rfl ?_
        refine t_get X (13, ((U 9 (2 * (a + b - 1) + k).toNat).toNat)) (v := .ref (A 12 ((U 16 (U 9 (2 * (a + b - 1) + k).toNat).toNat).toNat))) rfl fX1_236 (sC_13 (by first | omega | (show _ < U 43 0; omega) | (simp [vS]; omega))) (by show some (rfA A 12 (U 16 (U 9 (2 * (a + b - 1) + k).toNat).toNat)) = _; rw [rfA_1 n2]) ?_
        refine t_enum X 1 (by decide) rfl q2018 ?_
        refine t_callV X [] [] rfl mX1_258 (tc_become z.2.1 EV (b := (U 16 (U 9 (2 * (a + b - 1) + k).toNat).toNat)) (x := 1) (by first | omega | (show 0 ≤ _ ∧ _ < U 42 0; omega)) (by first | omega | (show U 42 0 ≤ 40; omega)) (by decide) (by first | omega | (show 0 ≤ U 23 _ ∧ U 23 _ ≤ 30; omega)) (uR24 hI (b := (U 16 (U 9 (2 * (a + b - 1) + k).toNat).toNat)) (by omega) (by omega))) (fun M h _ => ⟨_, _, h.1 (12, ((U 16 (U 9 (2 * (a + b - 1) + k).toNat).toNat).toNat)) _ (sC_12 (by first | omega | (show _ < U 42 0; omega) | (simp [vS]; omega)))⟩) rfl rfl (fun t h => by rcases h with h | h | h <;> (try rw [h]) <;> first | (show ¬ (_ : Nat) = 9; omega) | (show ¬ t.1 = 9; omega)) (fun _ h => by cases h) rfl rfl (Nat.le_of_ble_eq_true rfl) (gFit.of hR (by decide) (Nat.le_of_ble_eq_true rfl) (Nat.le_of_ble_eq_true rfl)) (fun _ h => h.elim) (fun v9 A9 U9 L9 h9 => ?_)
        obtain ⟨rfl, h7, h8, -⟩ := h9
        obtain rfl := h7.symm
        subst h8
        refine t_drop ?_
        have g61_41 : (uBec (vS U 30 ((2 * (a + b - 1) + k).toNat) 1) (U 16 (U 9 (2 * (a + b - 1) + k).toNat).toNat) 1) 41 0 = U 41 0 := uBec_k (by decide) (by decide)
        have g61_42 : (uBec (vS U 30 ((2 * (a + b - 1) + k).toNat) 1) (U 16 (U 9 (2 * (a + b - 1) + k).toNat).toNat) 1) 42 0 = U 42 0 := uBec_k (by decide) (by decide)
        have g61_43 : (uBec (vS U 30 ((2 * (a + b - 1) + k).toNat) 1) (U 16 (U 9 (2 * (a + b - 1) + k).toNat).toNat) 1) 43 0 = U 43 0 := uBec_k (by decide) (by decide)
        have g61_45 : (uBec (vS U 30 ((2 * (a + b - 1) + k).toNat) 1) (U 16 (U 9 (2 * (a + b - 1) + k).toNat).toNat) 1) 45 0 = U 45 0 := uBec_k (by decide) (by decide)
        have g61_46 : (uBec (vS U 30 ((2 * (a + b - 1) + k).toNat) 1) (U 16 (U 9 (2 * (a + b - 1) + k).toNat).toNat) 1) 46 0 = U 46 0 := uBec_k (by decide) (by decide)
        refine t_eq (st' := [.int (iI (U 23 (U 16 (U 9 (2 * (a + b - 1) + k).toNat).toNat).toNat))]) rfl rfl ?_
        refine t_run X 2 (pc1 := 68) (ls1 := [_, _, _, _, _, _, _]) (st1 := [_]) rfl ?_
        refine t_get X (13, (U 9 (2 * (a + b - 1) + k).toNat).toNat) (v := .ref (A 12 ((U 16 (U 9 (2 * (a + b - 1) + k).toNat).toNat).toNat))) rfl fX1_236 (sC_13 (by omega)) (by show some (rfA A 12 ((uBec (vS U 30 ((2 * (a + b - 1) + k).toNat) 1) (U 16 (U 9 (2 * (a + b - 1) + k).toNat).toNat) 1) 16 _)) = _; rw [uBec_k (by decide) (by decide)]; exact congrArg some (rfA_1 n2)) ?_
        refine t_run X 1 (pc1 := 72) (ls1 := [_, _, _, _, _, _, _]) (st1 := [_, _]) rfl ?_
        refine t_get X (10, 0) (v := .int (iI ((uBec (vS U 30 ((2 * (a + b - 1) + k).toNat) 1) (U 16 (U 9 (2 * (a + b - 1) + k).toNat).toNat) 1) 1 0))) rfl fX1_301 sC_10 rfl ?_
        refine t_run X 2 (pc1 := 78) (ls1 := [_, _, _, _, _, _, _]) (st1 := [_, _]) rfl ?_
        refine t_eq (ls' := [some (.ref (A 10 0)), some (.int (iI a)), some (.int (iI b)), some (.int (iI k)), some (.ref (A 14 ((2 * (a + b - 1) + k).toNat))), some (.ref (A 13 ((U 9 (2 * (a + b - 1) + k).toNat).toNat))), some (.int (iI (U 23 (U 16 (U 9 (2 * (a + b - 1) + k).toNat).toNat).toNat)))]) (st' := [.int (iI (((uBec (vS U 30 ((2 * (a + b - 1) + k).toNat) 1) (U 16 (U 9 (2 * (a + b - 1) + k).toNat).toNat) 1) 1 0) + 10)), .ref (A 12 ((U 16 (U 9 (2 * (a + b - 1) + k).toNat).toNat).toNat))]) (by first | rfl | (simp only [iI_add, iI_sub, iI_mul, iI_neg]; done) | (simp only [iI_add, iI_sub, iI_mul, iI_neg] <;> rfl)) (by first | rfl | (simp only [iI_add, iI_sub, iI_mul, iI_neg]; done) | (simp only [iI_add, iI_sub, iI_mul, iI_neg] <;> rfl)) ?_
        refine t_pu22 X (x := (((uBec (vS U 30 ((2 * (a + b - 1) + k).toNat) 1) (U 16 (U 9 (2 * (a + b - 1) + k).toNat).toNat) 1) 1 0) + 10)) rfl fX1_304 (by first | omega | (show _ < U 42 0; omega)) (show ¬ (12 : Nat) = 9 by decide) (fun _ h => nomatch h) ?_
        refine t_run X 1 (pc1 := 83) (ls1 := [_, _, _, _, _, _, _]) (st1 := [_]) rfl ?_
        refine t_callV X [] [] rfl mX1_284 (tc_endC z.2.1 EV (c := (U 9 (2 * (a + b - 1) + k).toNat)) (by first | omega | (show 0 ≤ _ ∧ _ < U 43 0; omega) | (simp [vS]; omega)) (by first | omega | (show 0 ≤ U 31 _ ∧ U 31 _ ≤ 2; omega) | (have e1 : (uBec (vS U 30 ((2 * (a + b - 1) + k).toNat) 1) (U 16 (U 9 (2 * (a + b - 1) + k).toNat).toNat) 1) 31 (U 9 (2 * (a + b - 1) + k).toNat).toNat = U 31 (U 9 (2 * (a + b - 1) + k).toNat).toNat := (uBec_k (by decide) (by decide)); show 0 ≤ (uBec (vS U 30 ((2 * (a + b - 1) + k).toNat) 1) (U 16 (U 9 (2 * (a + b - 1) + k).toNat).toNat) 1) 31 _ ∧ (uBec (vS U 30 ((2 * (a + b - 1) + k).toNat) 1) (U 16 (U 9 (2 * (a + b - 1) + k).toNat).toNat) 1) 31 _ ≤ 2; omega)) (fun k9 h0 h1 => by have e1 : (uBec (vS U 30 ((2 * (a + b - 1) + k).toNat) 1) (U 16 (U 9 (2 * (a + b - 1) + k).toNat).toNat) 1) 31 (U 9 (2 * (a + b - 1) + k).toNat).toNat = U 31 (U 9 (2 * (a + b - 1) + k).toNat).toNat := (uBec_k (by decide) (by decide)); have e2 : ∀ i, (uBec (vS U 30 ((2 * (a + b - 1) + k).toNat) 1) (U 16 (U 9 (2 * (a + b - 1) + k).toNat).toNat) 1) 32 i = U 32 i := (fun i => uBec_k (by decide) (by decide)); have h2 : k9 < (uBec (vS U 30 ((2 * (a + b - 1) + k).toNat) 1) (U 16 (U 9 (2 * (a + b - 1) + k).toNat).toNat) 1) 31 (U 9 (2 * (a + b - 1) + k).toNat).toNat := h1; show 0 ≤ (uBec (vS U 30 ((2 * (a + b - 1) + k).toNat) 1) (U 16 (U 9 (2 * (a + b - 1) + k).toNat).toNat) 1) 32 _ ∧ (uBec (vS U 30 ((2 * (a + b - 1) + k).toNat) 1) (U 16 (U 9 (2 * (a + b - 1) + k).toNat).toNat) 1) 32 _ < 6; rw [e2]; exact uR32 hI (c := (U 9 (2 * (a + b - 1) + k).toNat)) (by omega) (by omega) k9 h0 (by omega))) (fun M h _ => ⟨_, _, h.1 (13, ((U 9 (2 * (a + b - 1) + k).toNat).toNat)) _ (sC_13 (by first | omega | (show _ < U 43 0; omega) | (simp [vS]; omega)))⟩) rfl rfl (fun t h => by rcases h with h | h | h <;> (try rw [h]) <;> first | (show ¬ (_ : Nat) = 9; omega) | (show ¬ t.1 = 9; omega)) (fun _ h => by cases h) rfl rfl (Nat.le_of_ble_eq_true rfl) (gFit.of hR (by decide) (Nat.le_of_ble_eq_true rfl) (Nat.le_of_ble_eq_true rfl)) (fun _ h => h.elim) (fun v9 A9 U9 L9 h9 => ?_)
        obtain ⟨rfl, h7, h8, -⟩ := h9
        obtain rfl := h7.symm
        subst h8
        refine t_drop ?_
        have g83_41 : (uEnd (vS (uBec (vS U 30 ((2 * (a + b - 1) + k).toNat) 1) (U 16 (U 9 (2 * (a + b - 1) + k).toNat).toNat) 1) 22 ((U 16 (U 9 (2 * (a + b - 1) + k).toNat).toNat).toNat) (((uBec (vS U 30 ((2 * (a + b - 1) + k).toNat) 1) (U 16 (U 9 (2 * (a + b - 1) + k).toNat).toNat) 1) 1 0) + 10)) (U 9 (2 * (a + b - 1) + k).toNat)) 41 0 = U 41 0 := (uEnd_k (by decide) (by decide) (by decide)).trans (by show (uBec (vS U 30 ((2 * (a + b - 1) + k).toNat) 1) (U 16 (U 9 (2 * (a + b - 1) + k).toNat).toNat) 1) 41 0 = _; exact uBec_k (by decide) (by decide))
        have g83_42 : (uEnd (vS (uBec (vS U 30 ((2 * (a + b - 1) + k).toNat) 1) (U 16 (U 9 (2 * (a + b - 1) + k).toNat).toNat) 1) 22 ((U 16 (U 9 (2 * (a + b - 1) + k).toNat).toNat).toNat) (((uBec (vS U 30 ((2 * (a + b - 1) + k).toNat) 1) (U 16 (U 9 (2 * (a + b - 1) + k).toNat).toNat) 1) 1 0) + 10)) (U 9 (2 * (a + b - 1) + k).toNat)) 42 0 = U 42 0 := (uEnd_k (by decide) (by decide) (by decide)).trans (by show (uBec (vS U 30 ((2 * (a + b - 1) + k).toNat) 1) (U 16 (U 9 (2 * (a + b - 1) + k).toNat).toNat) 1) 42 0 = _; exact uBec_k (by decide) (by decide))
        have g83_43 : (uEnd (vS (uBec (vS U 30 ((2 * (a + b - 1) + k).toNat) 1) (U 16 (U 9 (2 * (a + b - 1) + k).toNat).toNat) 1) 22 ((U 16 (U 9 (2 * (a + b - 1) + k).toNat).toNat).toNat) (((uBec (vS U 30 ((2 * (a + b - 1) + k).toNat) 1) (U 16 (U 9 (2 * (a + b - 1) + k).toNat).toNat) 1) 1 0) + 10)) (U 9 (2 * (a + b - 1) + k).toNat)) 43 0 = U 43 0 := (uEnd_k (by decide) (by decide) (by decide)).trans (by show (uBec (vS U 30 ((2 * (a + b - 1) + k).toNat) 1) (U 16 (U 9 (2 * (a + b - 1) + k).toNat).toNat) 1) 43 0 = _; exact uBec_k (by decide) (by decide))
        have g83_45 : (uEnd (vS (uBec (vS U 30 ((2 * (a + b - 1) + k).toNat) 1) (U 16 (U 9 (2 * (a + b - 1) + k).toNat).toNat) 1) 22 ((U 16 (U 9 (2 * (a + b - 1) + k).toNat).toNat).toNat) (((uBec (vS U 30 ((2 * (a + b - 1) + k).toNat) 1) (U 16 (U 9 (2 * (a + b - 1) + k).toNat).toNat) 1) 1 0) + 10)) (U 9 (2 * (a + b - 1) + k).toNat)) 45 0 = U 45 0 := (uEnd_k (by decide) (by decide) (by decide)).trans (by show (uBec (vS U 30 ((2 * (a + b - 1) + k).toNat) 1) (U 16 (U 9 (2 * (a + b - 1) + k).toNat).toNat) 1) 45 0 = _; exact uBec_k (by decide) (by decide))
        have g83_46 : (uEnd (vS (uBec (vS U 30 ((2 * (a + b - 1) + k).toNat) 1) (U 16 (U 9 (2 * (a + b - 1) + k).toNat).toNat) 1) 22 ((U 16 (U 9 (2 * (a + b - 1) + k).toNat).toNat).toNat) (((uBec (vS U 30 ((2 * (a + b - 1) + k).toNat) 1) (U 16 (U 9 (2 * (a + b - 1) + k).toNat).toNat) 1) 1 0) + 10)) (U 9 (2 * (a + b - 1) + k).toNat)) 46 0 = U 46 0 := (uEnd_k (by decide) (by decide) (by decide)).trans (by show (uBec (vS U 30 ((2 * (a + b - 1) + k).toNat) 1) (U 16 (U 9 (2 * (a + b - 1) + k).toNat).toNat) 1) 46 0 = _; exact uBec_k (by decide) (by decide))
        refine t_eq (st' := []) rfl rfl ?_
        refine t_run X 1 (pc1 := 88) (ls1 := [_, _, _, _, _, _, _]) (st1 := [_]) rfl ?_
        refine t_get X (13, ((U 9 (2 * (a + b - 1) + k).toNat).toNat)) (v := .int (iI (((U 9 (2 * (a + b - 1) + k).toNat).toNat : Nat) : Int))) rfl fX1_218 (sC_13 (by first | omega | (show _ < U 43 0; omega) | (simp [vS]; omega))) rfl ?_
        exact t_iret X hQ rfl rfl (by omega) (by omega) ⟨⟨by rw [uCut, if_neg (by omega), if_neg (by omega)]; congr 3; show _ = U 9 _; omega, rfl, by rw [uCut, if_neg (by omega), if_neg (by omega)], rfl⟩, by omega⟩
set_option maxHeartbeats 1000000 in
theorem tc_passU (l : Launch) (EV : gEV) {A : gAd} {U : gV} {t : Int} (ht : inR t) (hI : uI U) : TC l yX1_pass cX1_pass 6 (some .int) 8 50 200 EV tSys [.ref (A 10 0), .int (iI t)] A U [] (fun w A9 U9 L9 => (w = some (.int (iI (uPass U t).1)) ∧ A9 = A ∧ U9 = (uPass U t).2) ∧ (1 ≤ t ∧ t ≤ 100) ∧ U 1 0 + t ≤ 10000) (fun E => E = cIAE ∧ ¬ (1 ≤ t ∧ t ≤ 100) ∨ E = cISE ∧ (1 ≤ t ∧ t ≤ 100) ∧ 10000 < U 1 0 + t) := by
  refine t_body tbX1_pass tkX1_pass (by decide) (by intro v hv; simp only [List.mem_cons, List.not_mem_nil, or_false] at hv; rcases hv with rfl | rfl <;> rfl) (Nat.le_of_ble_eq_true rfl) (fun M0 z Q X hl hR hQ hE => ?_)
  subst hl
  have hu := uIs hI
  unfold uS at hu
  have loop : ∀ (q j k : Nat), (k : Int) + j = U 17 0 → (1 ≤ t ∧ t ≤ 100 ∧ U 1 0 + t ≤ 10000) → ∀ m n : Nat, m + j ≤ 45 → n + 4 * j ≤ 180 → gTd z (cX1_pass, yX1_pass.cls, 6, (some .int), tbX1_pass, yX1_pass.name) EV Q tSys M0 A ((uPa (vS U 1 0 (U 1 0 + t)) k).2) [(q, (70, 0), itA (A 30 3) (U 17 0).toNat k)] m n 47 [some (.ref (A 10 0)), some (.int (iI t)), some (.int (iI ((uPa (vS U 1 0 (U 1 0 + t)) k).1))), some (.ref q), none, none] [] := by
    intro q j
    induction j with
    | zero =>
      intro k hk ht9 m n hm hn
      have e41 : (uPa (vS U 1 0 (U 1 0 + t)) k).2 41 0 = U 41 0 := uPa_k (by decide) (by decide) k
      have e42 : (uPa (vS U 1 0 (U 1 0 + t)) k).2 42 0 = U 42 0 := uPa_k (by decide) (by decide) k
      have e1 : (uPa (vS U 1 0 (U 1 0 + t)) k).2 1 0 = U 1 0 + t := uPa_k (by decide) (by decide) k
      have ep := uPa_r (vS U 1 0 (U 1 0 + t)) k
      refine t_run X 1 (pc1 := 48) (ls1 := [_, _, _, _, _, _]) (st1 := [_]) rfl ?_
      refine t_callF X [0] [] rfl mX1_112_14 (tc_alhasN z.2.1 EV (i := 3) (n := U 17 0) (k := k) (by unfold alL; omega) (by show (uPa (vS U 1 0 (U 1 0 + t)) k).2 17 0 = _; exact uPa_k (by decide) (by decide) k) (by omega) (by omega)) (fun M _ h => ⟨_, _, h.at (i := 0) rfl⟩) rfl rfl (fun _ h => h.elim) (fun _ _ h => h) rfl rfl (Nat.le_of_ble_eq_true rfl) (gFit.of hR (by decide) (by omega) (by omega)) (fun _ h => h.elim) (fun v9 A9 U9 L9 h9 => ?_)
      obtain ⟨rfl, h7, h8, rfl⟩ := h9
      obtain rfl := h7.symm
      obtain rfl := h8.symm
      refine t_eq (st' := [.int (iI (bI (¬ ((k : Nat) : Int) = U 17 0)))]) rfl rfl ?_
      refine t_L (L' := [(q, (70, 0), itA (A 30 3) (U 17 0).toNat k)]) rfl ?_
      refine t_br X (pc1 := 106) (st1 := []) rfl (fun b9 => ?_) (fun b9 => ?_)
      · have c53 : ¬ (¬ ((k : Nat) : Int) = U 17 0) := bI_f b9
        refine t_run X 1 (pc1 := 107) (ls1 := [_, _, _, _, _, _]) (st1 := [_]) rfl ?_
        have e9 : k = (U 17 0).toNat := by omega
        subst e9
        exact t_iret X hQ rfl rfl (by omega) (by omega) ⟨⟨rfl, rfl, rfl⟩, by omega⟩
      · have c53 : ¬ ((k : Nat) : Int) = U 17 0 := bI_t b9
        exact absurd (by omega) c53
    | succ j ih =>
      intro k hk ht9 m n hm hn
      have e41 : (uPa (vS U 1 0 (U 1 0 + t)) k).2 41 0 = U 41 0 := uPa_k (by decide) (by decide) k
      have e42 : (uPa (vS U 1 0 (U 1 0 + t)) k).2 42 0 = U 42 0 := uPa_k (by decide) (by decide) k
      have e1 : (uPa (vS U 1 0 (U 1 0 + t)) k).2 1 0 = U 1 0 + t := uPa_k (by decide) (by decide) k
      have ep := uPa_r (vS U 1 0 (U 1 0 + t)) k
      have e18 : (uPa (vS U 1 0 (U 1 0 + t)) k).2 18 k = U 18 k := uPa_18 k (Nat.le_refl _)
      have e22 : (uPa (vS U 1 0 (U 1 0 + t)) k).2 22 k = U 22 k := uPa_k (by decide) (by decide) k
      have bk : (0 ≤ U 18 k ∧ U 18 k ≤ 5) ∧ (0 ≤ U 19 k ∧ U 19 k ≤ 3) ∧ (0 ≤ U 20 k ∧ U 20 k ≤ 5) ∧ (0 ≤ U 21 k ∧ U 21 k ≤ 2) ∧ (0 ≤ U 22 k ∧ U 22 k ≤ 10010) ∧ 0 ≤ U 23 k ∧ U 23 k ≤ 30 := uIb hI (j := (k : Int)) (by omega) (by omega)
      refine t_run X 1 (pc1 := 48) (ls1 := [_, _, _, _, _, _]) (st1 := [_]) rfl ?_
      refine t_callF X [0] [] rfl mX1_112_14 (tc_alhasN z.2.1 EV (i := 3) (n := U 17 0) (k := k) (by unfold alL; omega) (by show (uPa (vS U 1 0 (U 1 0 + t)) k).2 17 0 = _; exact uPa_k (by decide) (by decide) k) (by omega) (by omega)) (fun M _ h => ⟨_, _, h.at (i := 0) rfl⟩) rfl rfl (fun _ h => h.elim) (fun _ _ h => h) rfl rfl (Nat.le_of_ble_eq_true rfl) (gFit.of hR (by decide) (by omega) (by omega)) (fun _ h => h.elim) (fun v9 A9 U9 L9 h9 => ?_)
      obtain ⟨rfl, h7, h8, rfl⟩ := h9
      obtain rfl := h7.symm
      obtain rfl := h8.symm
      refine t_eq (st' := [.int (iI (bI (¬ ((k : Nat) : Int) = U 17 0)))]) rfl rfl ?_
      refine t_L (L' := [(q, (70, 0), itA (A 30 3) (U 17 0).toNat k)]) rfl ?_
      refine t_br X (pc1 := 106) (st1 := []) rfl (fun b9 => ?_) (fun b9 => ?_)
      · have c53 : ¬ (¬ ((k : Nat) : Int) = U 17 0) := bI_f b9
        exact absurd (by omega) c53
      · have c53 : ¬ ((k : Nat) : Int) = U 17 0 := bI_t b9
        refine t_run X 1 (pc1 := 57) (ls1 := [_, _, _, _, _, _]) (st1 := [_]) rfl ?_
        refine t_callF X [0] [] rfl mX1_117_14 (tc_alnextN z.2.1 EV (i := 3) (n := U 17 0) (u := (70, 0)) (k := k) (by unfold alL; omega) (by show (uPa (vS U 1 0 (U 1 0 + t)) k).2 17 0 = _; exact uPa_k (by decide) (by decide) k) (by omega) (by decide) (by omega) rfl) (fun M _ h => ⟨_, _, h.at (i := 0) rfl⟩) rfl rfl (fun _ h => by rw [h]; show ¬ (_ : Nat) = 9; decide) (fun _ h => by cases h) rfl rfl (Nat.le_of_ble_eq_true rfl) (gFit.of hR (by decide) (by omega) (by omega)) (fun _ h => h.elim) (fun v9 A9 U9 L9 h9 => ?_)
        obtain ⟨rfl, h7, h8, rfl⟩ := h9
        obtain rfl := h7.symm
        obtain rfl := h8.symm
        refine t_eq (st' := [.ref (A 12 k)]) rfl rfl ?_
        refine t_L (L' := [(q, (70, 0), itA (A 30 3) (U 17 0).toNat (k + 1))]) rfl ?_
        refine t_cast X rfl kX1_158_16 (fun M h _ => ⟨_, _, h.1 (12, k) _ (sC_12 (by omega))⟩) ?_
        refine t_run X 2 (pc1 := 69) (ls1 := [_, _, _, _, _, _]) (st1 := [_]) rfl ?_
        refine t_get X (12, k) (v := .ref (EV.2.2.2 (10 + (((uPa (vS U 1 0 (U 1 0 + t)) k).2) 18 k).toNat))) rfl fX1_268 (sC_12 (by first | omega | (show _ < U 42 0; omega) | (simp [vS]; omega))) rfl ?_
        refine t_enum X 1 (by decide) rfl q2018 ?_
        refine t_ecmp X (i := (((uPa (vS U 1 0 (U 1 0 + t)) k).2) 18 k).toNat) (j := 1) (by rw [e18]; omega) (by decide) rfl rfl (fun b9 => ?_) (fun b9 => ?_)
        · have c75 : ¬ (((uPa (vS U 1 0 (U 1 0 + t)) k).2) 18 k) = 1 := by rw [e18] at b9 ⊢; omega
          refine t_run X 1 (pc1 := 47) (ls1 := [_, _, _, _, _, _]) (st1 := []) rfl ?_
          have e9 : uPa (vS U 1 0 (U 1 0 + t)) (k + 1) = ((uPa (vS U 1 0 (U 1 0 + t)) k).1, (uPa (vS U 1 0 (U 1 0 + t)) k).2) := by rw [uPa, if_neg (by omega)]
          have h9 := ih (k + 1) (by omega) ht9 (m + 0 + 0) (n + 0 + 0) (by omega) (by omega)
          rw [e9] at h9
          exact t_forget [true, true, true, true, false, false] rfl h9
        · have c75 : (((uPa (vS U 1 0 (U 1 0 + t)) k).2) 18 k) = 1 := by rw [e18] at b9 ⊢; omega
          refine t_run X 1 (pc1 := 80) (ls1 := [_, _, _, _, _, _]) (st1 := [_]) rfl ?_
          refine t_get X (12, k) (v := .int (iI (((uPa (vS U 1 0 (U 1 0 + t)) k).2) 22 k))) rfl fX1_304 (sC_12 (by first | omega | (show _ < U 42 0; omega) | (simp [vS]; omega))) rfl ?_
          refine t_run X 1 (pc1 := 84) (ls1 := [_, _, _, _, _, _]) (st1 := [_, _]) rfl ?_
          refine t_get X (10, 0) (v := .int (iI (((uPa (vS U 1 0 (U 1 0 + t)) k).2) 1 0))) rfl fX1_301 sC_10 rfl ?_
          refine t_br X (pc1 := 103) (st1 := []) rfl (fun b9 => ?_) (fun b9 => ?_)
          · have c87 : (((uPa (vS U 1 0 (U 1 0 + t)) k).2) 1 0) < (((uPa (vS U 1 0 (U 1 0 + t)) k).2) 22 k) := cLt b9 (by omega) (by omega)
            refine t_run X 1 (pc1 := 47) (ls1 := [_, _, _, _, _, _]) (st1 := []) rfl ?_
            have e9 : uPa (vS U 1 0 (U 1 0 + t)) (k + 1) = ((uPa (vS U 1 0 (U 1 0 + t)) k).1, (uPa (vS U 1 0 (U 1 0 + t)) k).2) := by rw [uPa, if_neg (by omega)]
            have h9 := ih (k + 1) (by omega) ht9 (m + 0 + 0) (n + 0 + 0) (by omega) (by omega)
            rw [e9] at h9
            exact t_forget [true, true, true, true, false, false] rfl h9
          · have c87 : (((uPa (vS U 1 0 (U 1 0 + t)) k).2) 22 k) ≤ (((uPa (vS U 1 0 (U 1 0 + t)) k).2) 1 0) := cNl b9 (by omega) (by omega)
            refine t_run X 1 (pc1 := 92) (ls1 := [_, _, _, _, _, _]) (st1 := [_]) rfl ?_
            refine t_enum X 5 (by decide) rfl q2031 ?_
            refine t_callV X [] [0] rfl mX1_258 (tc_become z.2.1 EV (b := (k : Int)) (x := 5) (by omega) (by omega) (by decide) (by show 0 ≤ (uPa (vS U 1 0 (U 1 0 + t)) k).2 23 k ∧ (uPa (vS U 1 0 (U 1 0 + t)) k).2 23 k ≤ 30; have e1 : (uPa (vS U 1 0 (U 1 0 + t)) k).2 23 k = U 23 k := (uPa_k (by decide) (by decide) k); omega) (fun k9 g0 g1 => by have e1 : (uPa (vS U 1 0 (U 1 0 + t)) k).2 23 k = U 23 k := (uPa_k (by decide) (by decide) k); have e2 : ∀ i, (uPa (vS U 1 0 (U 1 0 + t)) k).2 24 i = U 24 i := (fun i => uPa_k (by decide) (by decide) k); have h2 : k9 < (uPa (vS U 1 0 (U 1 0 + t)) k).2 23 k := g1; show 0 ≤ (uPa (vS U 1 0 (U 1 0 + t)) k).2 24 _ ∧ (uPa (vS U 1 0 (U 1 0 + t)) k).2 24 _ < (uPa (vS U 1 0 (U 1 0 + t)) k).2 41 0; rw [e2, e41]; exact uR24 hI (b := (k : Int)) (by omega) (by omega) k9 g0 (by show k9 < U 23 k; omega))) (fun M h _ => ⟨_, _, h.1 (12, k) _ (sC_12 (by first | omega | (show _ < U 42 0; omega) | (simp [vS]; omega)))⟩) rfl rfl (fun t h => by rcases h with h | h | h <;> (try rw [h]) <;> first | (show ¬ (_ : Nat) = 9; omega) | (show ¬ t.1 = 9; omega)) (by intro x hx; obtain rfl := List.mem_singleton.mp (show x ∈ [_] from hx); intro h; rcases h with h | h | h; exact absurd (show (70 : Nat) = 11 from h) (by decide); exact absurd (show (70 : Nat) = 12 from h) (by decide); exact absurd (show ((70 : Nat), (0 : Nat)) = (71, 0) from h) (by decide)) rfl rfl (Nat.le_of_ble_eq_true rfl) (gFit.of hR (by decide) (by omega) (by omega)) (fun _ h => h.elim) (fun v9 A9 U9 L9 h9 => ?_)
            obtain ⟨rfl, h7, h8, -⟩ := h9
            obtain rfl := h7.symm
            subst h8
            refine t_drop ?_
            refine t_eq (st' := [.int (iI ((uPa (vS U 1 0 (U 1 0 + t)) k).2 23 k))]) rfl rfl ?_
            refine t_L (L' := [(q, (70, 0), itA (A 30 3) (U 17 0).toNat (k + 1))]) rfl ?_
            refine t_run X 3 (pc1 := 47) (ls1 := [_, _, _, _, _, _]) (st1 := []) rfl ?_
            refine t_eq (ls' := [some (.ref (A 10 0)), some (.int (iI t)), some (.int (iI (((uPa (vS U 1 0 (U 1 0 + t)) k).1) + 1))), some (.ref q), some (.ref (A 12 k)), some (.int (iI ((uPa (vS U 1 0 (U 1 0 + t)) k).2 23 k)))]) (st' := []) (by first | rfl | (simp only [iI_add, iI_sub, iI_mul, iI_neg]; done) | (simp only [iI_add, iI_sub, iI_mul, iI_neg] <;> rfl)) (by first | rfl | (simp only [iI_add, iI_sub, iI_mul, iI_neg]; done) | (simp only [iI_add, iI_sub, iI_mul, iI_neg] <;> rfl)) ?_
            have e9 : uPa (vS U 1 0 (U 1 0 + t)) (k + 1) = ((((uPa (vS U 1 0 (U 1 0 + t)) k).1) + 1), (uBec (uPa (vS U 1 0 (U 1 0 + t)) k).2 (k : Int) 5)) := by rw [uPa, if_pos (by omega)]
            have h9 := ih (k + 1) (by omega) ht9 (m + 0 + 0 + 1) (n + 0 + 0 + 4) (by omega) (by omega)
            rw [e9] at h9
            exact t_forget [true, true, true, true, false, false] rfl h9
  refine t_eq (ls' := [some (.ref (A 10 0)), some (.int (iI t)), none, none, none, none]) (st' := []) rfl rfl ?_
  refine t_run X 3 (pc1 := 4) (ls1 := [_, _, _, _, _, _]) (st1 := [_, _, _]) rfl ?_
  refine t_callS X [] [] rfl mX1_139 (tc_limited z.2.1 EV (v := t) (lo := 1) (hi := 100) (by omega) (by omega) (by omega)) rfl rfl (fun _ h => h.elim) (fun _ h => by cases h) rfl rfl (Nat.le_of_ble_eq_true rfl) (gFit.of hR (by decide) (Nat.le_of_ble_eq_true rfl) (Nat.le_of_ble_eq_true rfl)) (fun E h => t_out X hQ hE (by omega) (by omega) (Or.inl ⟨h.1, by have h2 := h.2; omega⟩)) (fun v9 A9 U9 L9 h9 => ?_)
  obtain ⟨⟨rfl, h7, h8, rfl⟩, l4⟩ := h9
  obtain rfl := h7.symm
  obtain rfl := h8.symm
  refine t_eq (st' := []) rfl rfl ?_
  refine t_run X 1 (pc1 := 8) (ls1 := [_, _, _, _, _, _]) (st1 := [_]) rfl ?_
  refine t_get X (10, 0) (v := .int (iI (U 1 0))) rfl fX1_301 sC_10 rfl ?_
  refine t_run X 3 (pc1 := 16) (ls1 := [_, _, _, _, _, _]) (st1 := [_, _]) rfl ?_
  refine t_eq (ls' := [some (.ref (A 10 0)), some (.int (iI t)), none, none, none, none]) (st' := [.int (iI 10000), .int (iI ((U 1 0) + t))]) (by first | rfl | (simp only [iI_add, iI_sub, iI_mul, iI_neg]; done) | (simp only [iI_add, iI_sub, iI_mul, iI_neg] <;> rfl)) (by first | rfl | (simp only [iI_add, iI_sub, iI_mul, iI_neg]; done) | (simp only [iI_add, iI_sub, iI_mul, iI_neg] <;> rfl)) ?_
  refine t_br X (pc1 := 23) (st1 := []) rfl (fun b9 => ?_) (fun b9 => ?_)
  · have c16 : 10000 < ((U 1 0) + t) := cLt b9 (by omega) (by omega)
    refine t_run X 1 (pc1 := 24) (ls1 := [_, _, _, _, _, _]) (st1 := [_]) rfl ?_
    refine t_eq (st' := [.int (iI (bI (False)))]) rfl rfl ?_
    refine t_callS X [] [] rfl mX1_154 (tc_allowed z.2.1 EV (False)) rfl rfl (fun _ h => h.elim) (fun _ _ h => h) rfl rfl (Nat.le_of_ble_eq_true rfl) (gFit.of hR (by decide) (Nat.le_of_ble_eq_true rfl) (Nat.le_of_ble_eq_true rfl)) (fun E h => t_out X hQ hE (by omega) (by omega) (Or.inr ⟨h.1, by omega, by have h2 := h.2; omega⟩)) (fun v9 A9 U9 L9 h9 => ?_)
    exact h9.2.elim
  · have c16 : ((U 1 0) + t) ≤ 10000 := cNl b9 (by omega) (by omega)
    refine t_run X 2 (pc1 := 24) (ls1 := [_, _, _, _, _, _]) (st1 := [_]) rfl ?_
    refine t_eq (st' := [.int (iI (bI (True)))]) rfl rfl ?_
    refine t_callS X [] [] rfl mX1_154 (tc_allowed z.2.1 EV (True)) rfl rfl (fun _ h => h.elim) (fun _ _ h => h) rfl rfl (Nat.le_of_ble_eq_true rfl) (gFit.of hR (by decide) (Nat.le_of_ble_eq_true rfl) (Nat.le_of_ble_eq_true rfl)) (fun E h => (h.2 trivial).elim) (fun v9 A9 U9 L9 h9 => ?_)
    obtain ⟨⟨rfl, h7, h8, rfl⟩, -⟩ := h9
    obtain rfl := h7.symm
    obtain rfl := h8.symm
    refine t_eq (st' := []) rfl rfl ?_
    refine t_run X 2 (pc1 := 29) (ls1 := [_, _, _, _, _, _]) (st1 := [_, _]) rfl ?_
    refine t_get X (10, 0) (v := .int (iI (U 1 0))) rfl fX1_301 sC_10 rfl ?_
    refine t_run X 2 (pc1 := 34) (ls1 := [_, _, _, _, _, _]) (st1 := [_, _]) rfl ?_
    refine t_eq (ls' := [some (.ref (A 10 0)), some (.int (iI t)), none, none, none, none]) (st' := [.int (iI ((U 1 0) + t)), .ref (A 10 0)]) (by first | rfl | (simp only [iI_add, iI_sub, iI_mul, iI_neg]; done) | (simp only [iI_add, iI_sub, iI_mul, iI_neg] <;> rfl)) (by first | rfl | (simp only [iI_add, iI_sub, iI_mul, iI_neg]; done) | (simp only [iI_add, iI_sub, iI_mul, iI_neg] <;> rfl)) ?_
    refine t_pu1 X (x := ((U 1 0) + t)) rfl fX1_301 (show ¬ (10 : Nat) = 9 by decide) (fun _ h => nomatch h) ?_
    refine t_run X 3 (pc1 := 40) (ls1 := [_, _, _, _, _, _]) (st1 := [_]) rfl ?_
    refine t_get X (10, 0) (v := .ref (A 30 3)) rfl fX1_38 sC_10 rfl ?_
    refine t_callV X [] [] rfl mX1_108 (tc_aliterN z.2.1 EV (U := vS U 1 0 (U 1 0 + t)) (i := 3) (n := U 17 0) (by unfold alL; omega) rfl (70, 0) (by decide)) (fun M h _ => gAL_at (h.2.1 3 (by unfold alL; omega))) rfl rfl (fun _ h => by rw [h]; show ¬ (_ : Nat) = 9; decide) (fun _ h => by cases h) rfl rfl (Nat.le_of_ble_eq_true rfl) (gFit.of hR (by decide) (Nat.le_of_ble_eq_true rfl) (Nat.le_of_ble_eq_true rfl)) (fun _ h => h.elim) (fun v9 A9 U9 L9 h9 => ?_)
    obtain ⟨q1, rfl, h7, h8, rfl⟩ := h9
    obtain rfl := h7.symm
    subst h8
    refine t_eq (st' := [.ref q1]) rfl rfl ?_
    refine t_L (L' := [(q1, (70, 0), itA (A 30 3) (U 17 0).toNat 0)]) rfl ?_
    refine t_run X 1 (pc1 := 47) (ls1 := [_, _, _, _, _, _]) (st1 := []) rfl ?_
    exact loop q1 (U 17 0).toNat 0 (by omega) (by omega) _ _ (by omega) (by omega)
