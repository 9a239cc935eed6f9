/-! THE SYSTEM's methods walked: a call begins; a wagon comes -/
theorem uWay_r (U : gV) {f t : Int} (hf : 0 ≤ f ∧ f ≤ 2) (ht : 0 ≤ t ∧ t ≤ 2) : ((uWay U f t).1 = -1 ∨ 0 ≤ (uWay U f t).1 ∧ (uWay U f t).1 ≤ 2) ∧ (0 ≤ (uWay U f t).2.1 ∧ (uWay U f t).2.1 < 6) ∧ 0 ≤ (uWay U f t).2.2 ∧ (uWay U f t).2.2 < 6 := by
  unfold uWay
  split
  · exact ⟨Or.inr ⟨by decide, by decide⟩, ⟨by decide, by decide⟩, by decide, by decide⟩
  · have h1 := uFB_r U (a := f) (b := t) (by omega)
    split
    · show ((1 : Int) = -1 ∨ 0 ≤ (1 : Int) ∧ (1 : Int) ≤ 2) ∧ (0 ≤ uFB U f t ∧ uFB U f t < 6) ∧ 0 ≤ (0 : Int) ∧ (0 : Int) < 6
      omega
    · split
      · exact ⟨Or.inl rfl, ⟨by decide, by decide⟩, by decide, by decide⟩
      · have h2 := uFB_r U (a := f) (b := (3 - f) - t) (by omega)
        have h3 := uFB_r U (a := (3 - f) - t) (b := t) (by omega)
        show ((2 : Int) = -1 ∨ 0 ≤ (2 : Int) ∧ (2 : Int) ≤ 2) ∧ (0 ≤ uFB U f ((3 - f) - t) ∧ uFB U f ((3 - f) - t) < 6) ∧ 0 ≤ uFB U ((3 - f) - t) t ∧ uFB U ((3 - f) - t) t < 6
        omega
def uNew (U : gV) (c y : Int) (w : Int × Int × Int) : gV := uCo (uC U c y w.1 w.2.1 w.2.2) (U 43 0) w.1.toNat
def uCall (U : gV) (c y : Int) : Int × gV := if U 10 y.toNat ≤ uIU U y (U 11 0).toNat ∨ (uWay U (c % 3) y).1 < 0 then (-1, vS U 12 0 (U 12 0 + 1)) else (U 11 0, vS (uNew U c y (uWay U (c % 3) y)) 11 0 (uNew U c y (uWay U (c % 3) y) 11 0 + 1))
set_option maxHeartbeats 1000000 in
theorem tc_callU (l : Launch) (EV : gEV) {A : gAd} {U : gV} {c y : Int} (hc : inR c) (hy : inR y) (hI : uI U) : TC l yX1_call cX1_call 4 (some .int) 12 20 4000 EV tSys [.ref (A 10 0), .int (iI c), .int (iI y)] A U [] (fun w A9 U9 L9 => (w = some (.int (iI (uCall U c y).1)) ∧ A9 10 0 = A 10 0 ∧ U9 = (uCall U c y).2) ∧ (0 ≤ c ∧ c ≤ 5) ∧ isYd y ∧ uCN U c (U 11 0).toNat = -1 ∧ U 11 0 < 60) (fun E => E = cIAE ∧ ¬ ((0 ≤ c ∧ c ≤ 5) ∧ isYd y) ∨ E = cISE ∧ ((0 ≤ c ∧ c ≤ 5) ∧ isYd y) ∧ ¬ (uCN U c (U 11 0).toNat = -1 ∧ U 11 0 < 60)) := by
  refine t_body tbX1_call tkX1_call (by decide) (by intro v hv; simp only [List.mem_cons, List.not_mem_nil, or_false] at hv; rcases hv with rfl | rfl | rfl <;> rfl) (Nat.le_of_ble_eq_true rfl) (fun M0 z Q X hl hR hQ hE => ?_)
  subst hl
  have hu := uIs hI
  unfold uS at hu
  refine t_eq (ls' := [some (.ref (A 10 0)), some (.int (iI c)), some (.int (iI y)), none]) (st' := []) rfl rfl ?_
  refine t_run X 3 (pc1 := 3) (ls1 := [_, _, _, _]) (st1 := [_, _, _]) rfl ?_
  refine t_callS X [] [] rfl mX1_139 (tc_limited z.2.1 EV (v := c) (lo := 0) (hi := 5) (by omega) (by omega) (by omega)) rfl rfl (fun _ h => h.elim) (fun _ h => by cases h) rfl rfl (Nat.le_of_ble_eq_true rfl) (gFit.of hR (by decide) (Nat.le_of_ble_eq_true rfl) (Nat.le_of_ble_eq_true rfl)) (fun E h => t_out X hQ hE (by omega) (by omega) (Or.inl ⟨h.1, by have h2 := h.2; omega⟩)) (fun v9 A9 U9 L9 h9 => ?_)
  obtain ⟨⟨rfl, h7, h8, rfl⟩, l3⟩ := h9
  obtain rfl := h7.symm
  obtain rfl := h8.symm
  refine t_eq (st' := []) rfl rfl ?_
  refine t_run X 3 (pc1 := 9) (ls1 := [_, _, _, _]) (st1 := [_, _, _]) rfl ?_
  refine t_callS X [] [] rfl mX1_139 (tc_limited z.2.1 EV (v := y) (lo := 0) (hi := 2) (by omega) (by omega) (by omega)) rfl rfl (fun _ h => h.elim) (fun _ h => by cases h) rfl rfl (Nat.le_of_ble_eq_true rfl) (gFit.of hR (by decide) (Nat.le_of_ble_eq_true rfl) (Nat.le_of_ble_eq_true rfl)) (fun E h => t_out X hQ hE (by omega) (by omega) (Or.inl ⟨h.1, by have h2 := h.2; omega⟩)) (fun v9 A9 U9 L9 h9 => ?_)
  obtain ⟨⟨rfl, h7, h8, rfl⟩, l9⟩ := h9
  obtain rfl := h7.symm
  obtain rfl := h8.symm
  refine t_eq (st' := []) rfl rfl ?_
  refine t_run X 2 (pc1 := 14) (ls1 := [_, _, _, _]) (st1 := [_, _]) rfl ?_
  refine t_callV X [] [] rfl mX1_219 (tc_callNow z.2.1 EV (c := c) (by omega) hI) (fun M h _ => ⟨_, _, h.1 (10, 0) _ sC_10⟩) rfl rfl (fun _ h => by rw [h]; exact Nat.ne_of_beq_eq_false rfl) (fun _ h => by cases h) rfl rfl (Nat.le_of_ble_eq_true rfl) (gFit.of hR (by decide) (Nat.le_of_ble_eq_true rfl) (Nat.le_of_ble_eq_true rfl)) (fun _ h => h.elim) (fun v9 A9 U9 L9 h9 => ?_)
  obtain ⟨rfl, h7, h8, -⟩ := h9
  obtain rfl := h7.symm
  obtain rfl := h8.symm
  refine t_drop ?_
  have bcn := uCN_r U c (U 11 0).toNat
  refine t_eq (st' := [.int (iI (uCN U c (U 11 0).toNat))]) rfl rfl ?_
  refine t_run X 1 (pc1 := 18) (ls1 := [_, _, _, _]) (st1 := [_, _]) rfl ?_
  refine t_br X (pc1 := 37) (st1 := []) rfl (fun b9 => ?_) (fun b9 => ?_)
  · have c18 : ¬ (uCN U c (U 11 0).toNat) = (-1) := cNq b9 (by omega) (by omega)
    refine t_run X 1 (pc1 := 38) (ls1 := [_, _, _, _]) (st1 := [_]) rfl ?_
    refine t_eq (st' := [.int (iI (bI (False)))]) rfl rfl ?_
    refine t_callS X [] [] rfl mX1_154 (tc_allowed z.2.1 EV (False)) rfl rfl (fun _ h => h.elim) (fun _ _ h => h) rfl rfl (Nat.le_of_ble_eq_true rfl) (gFit.of hR (by decide) (Nat.le_of_ble_eq_true rfl) (Nat.le_of_ble_eq_true rfl)) (fun E h => t_out X hQ hE (by omega) (by omega) (Or.inr ⟨h.1, by omega, by omega⟩)) (fun v9 A9 U9 L9 h9 => ?_)
    exact h9.2.elim
  · have c18 : (uCN U c (U 11 0).toNat) = (-1) := cEq b9 (by omega) (by omega)
    refine t_run X 1 (pc1 := 22) (ls1 := [_, _, _, _]) (st1 := [_]) rfl ?_
    refine t_get X (10, 0) (v := .ref (A 30 2)) rfl fX1_35 sC_10 rfl ?_
    refine t_callV X [] [] rfl mX1_146 (tc_alsize z.2.1 EV (i := 2) (by unfold alL; omega) (by show 0 ≤ (U 11 0); omega)) (fun M h _ => gAL_at (h.2.1 2 (by unfold alL; omega))) rfl rfl (fun _ h => h.elim) (fun _ _ h => h) rfl rfl (Nat.le_of_ble_eq_true rfl) (gFit.of hR (by decide) (Nat.le_of_ble_eq_true rfl) (Nat.le_of_ble_eq_true rfl)) (fun _ h => h.elim) (fun v9 A9 U9 L9 h9 => ?_)
    obtain ⟨rfl, h7, h8, rfl⟩ := h9
    obtain rfl := h7.symm
    obtain rfl := h8.symm
    refine t_eq (st' := [.int (iI (U 11 0))]) rfl rfl ?_
    refine t_run X 1 (pc1 := 30) (ls1 := [_, _, _, _]) (st1 := [_, _]) rfl ?_
    refine t_br X (pc1 := 37) (st1 := []) rfl (fun b9 => ?_) (fun b9 => ?_)
    · have c30 : 60 ≤ (U 11 0) := cLe b9 (by omega) (by omega)
      refine t_run X 1 (pc1 := 38) (ls1 := [_, _, _, _]) (st1 := [_]) rfl ?_
      refine t_eq (st' := [.int (iI (bI (False)))]) rfl rfl ?_
      refine t_callS X [] [] rfl mX1_154 (tc_allowed z.2.1 EV (False)) rfl rfl (fun _ h => h.elim) (fun _ _ h => h) rfl rfl (Nat.le_of_ble_eq_true rfl) (gFit.of hR (by decide) (Nat.le_of_ble_eq_true rfl) (Nat.le_of_ble_eq_true rfl)) (fun E h => t_out X hQ hE (by omega) (by omega) (Or.inr ⟨h.1, by omega, by omega⟩)) (fun v9 A9 U9 L9 h9 => ?_)
      exact h9.2.elim
    · have c30 : (U 11 0) < 60 := cNe b9 (by omega) (by omega)
      refine t_run X 2 (pc1 := 38) (ls1 := [_, _, _, _]) (st1 := [_]) rfl ?_
      refine t_eq (st' := [.int (iI (bI (True)))]) rfl rfl ?_
      refine t_callS X [] [] rfl mX1_154 (tc_allowed z.2.1 EV (True)) rfl rfl (fun _ h => h.elim) (fun _ _ h => h) rfl rfl (Nat.le_of_ble_eq_true rfl) (gFit.of hR (by decide) (Nat.le_of_ble_eq_true rfl) (Nat.le_of_ble_eq_true rfl)) (fun E h => (h.2 trivial).elim) (fun v9 A9 U9 L9 h9 => ?_)
      obtain ⟨⟨rfl, h7, h8, rfl⟩, -⟩ := h9
      obtain rfl := h7.symm
      obtain rfl := h8.symm
      refine t_eq (st' := []) rfl rfl ?_
      refine t_run X 2 (pc1 := 43) (ls1 := [_, _, _, _]) (st1 := [_, _]) rfl ?_
      refine t_callV X [] [] rfl mX1_223 (tc_inUse z.2.1 EV (y := y) (by omega) hI) (fun M h _ => ⟨_, _, h.1 (10, 0) _ sC_10⟩) rfl rfl (fun _ h => by rw [h]; exact Nat.ne_of_beq_eq_false rfl) (fun _ h => by cases h) rfl rfl (Nat.le_of_ble_eq_true rfl) (gFit.of hR (by decide) (Nat.le_of_ble_eq_true rfl) (Nat.le_of_ble_eq_true rfl)) (fun _ h => h.elim) (fun v9 A9 U9 L9 h9 => ?_)
      obtain ⟨rfl, h7, h8, -⟩ := h9
      obtain rfl := h7.symm
      obtain rfl := h8.symm
      refine t_drop ?_
      have biu := uIU_r U y (U 11 0).toNat
      refine t_eq (st' := [.int (iI (uIU U y (U 11 0).toNat))]) rfl rfl ?_
      refine t_run X 1 (pc1 := 47) (ls1 := [_, _, _, _]) (st1 := [_, _]) rfl ?_
      refine t_get X (10, 0) (v := .ref (A 19 0)) rfl fX1_31 sC_10 rfl ?_
      refine t_run X 1 (pc1 := 51) (ls1 := [_, _, _, _]) (st1 := [_, _, _]) rfl ?_
      have bl := uI10 hI (j := y) (by omega) (by omega)
      refine t_iald X (19, 0) (v := iI (U 10 y.toNat)) rfl sC_19 (gIx_i (by omega) (by omega)) rfl ?_
      refine t_br X (pc1 := 73) (st1 := []) rfl (fun b9 => ?_) (fun b9 => ?_)
      · have c52 : (U 10 y.toNat) ≤ (uIU U y (U 11 0).toNat) := cLe b9 (by omega) (by omega)
        refine t_run X 6 (pc1 := 81) (ls1 := [_, _, _, _]) (st1 := [_, _]) rfl ?_
        refine t_get X (10, 0) (v := .int (iI (U 12 0))) rfl fX1_230 sC_10 rfl ?_
        refine t_run X 2 (pc1 := 86) (ls1 := [_, _, _, _]) (st1 := [_, _]) rfl ?_
        refine t_eq (ls' := [some (.ref (A 10 0)), some (.int (iI c)), some (.int (iI y)), some (.null)]) (st' := [.int (iI ((U 12 0) + 1)), .ref (A 10 0)]) (by first | rfl | (simp only [iI_add, iI_sub, iI_mul, iI_neg]; done) | (simp only [iI_add, iI_sub, iI_mul, iI_neg] <;> rfl)) (by first | rfl | (simp only [iI_add, iI_sub, iI_mul, iI_neg]; done) | (simp only [iI_add, iI_sub, iI_mul, iI_neg] <;> rfl)) ?_
        refine t_pu12 X (x := ((U 12 0) + 1)) rfl fX1_230 (show ¬ (10 : Nat) = 9 by decide) (fun _ h => nomatch h) ?_
        refine t_run X 1 (pc1 := 90) (ls1 := [_, _, _, _]) (st1 := [_]) rfl ?_
        have e9 : uCall U c y = (-1, vS U 12 0 (U 12 0 + 1)) := by rw [uCall, if_pos (by first | exact Or.inr hw9 | omega)]
        exact t_iret X hQ rfl rfl (by omega) (by omega) ⟨⟨by rw [e9], rfl, by rw [e9]⟩, by omega⟩
      · have c52 : (uIU U y (U 11 0).toNat) < (U 10 y.toNat) := cNe b9 (by omega) (by omega)
        refine t_run X 3 (pc1 := 58) (ls1 := [_, _, _, _]) (st1 := [_, _, _]) rfl ?_
        refine t_iremU X (x := c) (y := 3) rfl (by omega) (by omega) ?_
        refine t_run X 1 (pc1 := 60) (ls1 := [_, _, _, _]) (st1 := [_, _, _]) rfl ?_
        refine t_new X (30, (100 + (U 43 0).toNat)) rfl nX1_7 (rc hR (Nat.le_of_ble_eq_true rfl)) (rs hR (Nat.le_of_ble_eq_true rfl)) (fun q1 => ?_)
        refine t_L (L' := [(q1, (30, (100 + (U 43 0).toNat)), .inr (1, [.int (iI 0), .null, .int (iI 0)]))]) rfl ?_
        refine t_run X 1 (pc1 := 64) (ls1 := [_, _, _, _]) (st1 := [_, _, _, _, _]) rfl ?_
        refine t_callI X [0] [] rfl mX1_9 (TC.ofJ (jc_J2_init z.2.1 EV) (fun _ _ _ => trivial) (fun t h => h ▸ tDead_al (by unfold alL; omega))) rfl rfl (fun _ h => by rw [h]; exact Nat.ne_of_beq_eq_false rfl) (fun _ h => by cases h) rfl rfl (Nat.le_of_ble_eq_true rfl) (gFit.of hR (by decide) (Nat.le_of_ble_eq_true rfl) (Nat.le_of_ble_eq_true rfl)) (fun _ h => h.elim) (fun v9 A9 U9 L9 h9 => ?_)
        obtain ⟨⟨rfl, rfl⟩, h7, h8⟩ := h9
        obtain rfl := h7.symm
        obtain rfl := h8.symm
        refine t_eq (st' := [.ref q1, .int (iI y), .int (iI (c % 3)), .ref (A 10 0)]) rfl rfl ?_
        refine t_L (L' := [(q1, (30, (100 + (U 43 0).toNat)), .inr (1, [.int (iI 0), .ref (EV.2.2.2 0), .int (iI 0)]))]) rfl ?_
        refine t_callV X [0] [] rfl mX1_226 (tc_foundWay z.2.1 EV (f := c % 3) (t := y) (a := q1) (by omega) (by omega) hI) (fun M h _ => ⟨_, _, h.1 (10, 0) _ sC_10⟩) rfl rfl (fun t h => by rcases h with h | h | h <;> rw [h] <;> exact Nat.ne_of_beq_eq_false rfl) (fun _ h => by cases h) rfl rfl (Nat.le_of_ble_eq_true rfl) (gFit.of hR (by decide) (Nat.le_of_ble_eq_true rfl) (Nat.le_of_ble_eq_true rfl)) (fun _ h => h.elim) (fun v9 A9 U9 L9 h9 => ?_)
        obtain ⟨rfl, h7, h8, hO⟩ := h9
        obtain rfl := h7.symm
        obtain rfl := h8.symm
        have bw := uWay_r U (f := c % 3) (t := y) (by omega) (by omega)
        by_cases hw9 : (uWay U (c % 3) y).1 < 0
        · refine t_drop ?_
          refine t_eq (st' := [.null]) rfl (by rw [if_pos hw9]; rfl) ?_
          refine t_run X 6 (pc1 := 81) (ls1 := [_, _, _, _]) (st1 := [_, _]) rfl ?_
          refine t_get X (10, 0) (v := .int (iI (U 12 0))) rfl fX1_230 sC_10 rfl ?_
          refine t_run X 2 (pc1 := 86) (ls1 := [_, _, _, _]) (st1 := [_, _]) rfl ?_
          refine t_eq (ls' := [some (.ref (A 10 0)), some (.int (iI c)), some (.int (iI y)), some (.null)]) (st' := [.int (iI ((U 12 0) + 1)), .ref (A 10 0)]) (by first | rfl | (simp only [iI_add, iI_sub, iI_mul, iI_neg]; done) | (simp only [iI_add, iI_sub, iI_mul, iI_neg] <;> rfl)) (by first | rfl | (simp only [iI_add, iI_sub, iI_mul, iI_neg]; done) | (simp only [iI_add, iI_sub, iI_mul, iI_neg] <;> rfl)) ?_
          refine t_pu12 X (x := ((U 12 0) + 1)) rfl fX1_230 (show ¬ (10 : Nat) = 9 by decide) (fun _ h => nomatch h) ?_
          refine t_run X 1 (pc1 := 90) (ls1 := [_, _, _, _]) (st1 := [_]) rfl ?_
          have e9 : uCall U c y = (-1, vS U 12 0 (U 12 0 + 1)) := by rw [uCall, if_pos (by first | exact Or.inr hw9 | omega)]
          exact t_iret X hQ rfl rfl (by omega) (by omega) ⟨⟨by rw [e9], rfl, by rw [e9]⟩, by omega⟩
        · have hO := hO (by omega)
          rcases hO.1 with ⟨c1, rfl⟩ | ⟨d, c1, c2, rfl⟩
          · refine t_L (L' := [(q1, (30, (100 + (U 43 0).toNat)), c1)]) rfl ?_
            refine t_eq (st' := [.ref q1]) rfl (by rw [if_neg hw9]; rfl) ?_
            refine t_run X 5 (pc1 := 92) (ls1 := [_, _, _, _]) (st1 := [_]) rfl ?_
            refine t_get X (10, 0) (v := .ref (A 30 2)) rfl fX1_35 sC_10 rfl ?_
            refine t_new X (13, (U 43 0).toNat) rfl nX1_121 (rc hR (Nat.le_of_ble_eq_true rfl)) (rs hR (Nat.le_of_ble_eq_true rfl)) (fun q2 => ?_)
            refine t_L (L' := [(q1, (30, (100 + (U 43 0).toNat)), c1), (q2, (13, (U 43 0).toNat), .inr (15, [.int (iI 0), .int (iI 0), .int (iI 0), .null, .null, .int (iI 0)]))]) rfl ?_
            refine t_run X 2 (pc1 := 100) (ls1 := [_, _, _, _]) (st1 := [_, _, _, _]) rfl ?_
            refine t_get X (10, 0) (v := .ref (A 30 2)) rfl fX1_35 sC_10 rfl ?_
            refine t_callV X [] [0, 1] rfl mX1_146 (tc_alsize z.2.1 EV (i := 2) (by unfold alL; omega) (by show 0 ≤ (U 11 0); omega)) (fun M h _ => gAL_at (h.2.1 2 (by unfold alL; omega))) rfl rfl (fun _ h => h.elim) (fun _ _ h => h) rfl rfl (Nat.le_of_ble_eq_true rfl) (gFit.of hR (by decide) (Nat.le_of_ble_eq_true rfl) (Nat.le_of_ble_eq_true rfl)) (fun _ h => h.elim) (fun v9 A9 U9 L9 h9 => ?_)
            obtain ⟨rfl, h7, h8, rfl⟩ := h9
            obtain rfl := h7.symm
            obtain rfl := h8.symm
            refine t_eq (st' := [.int (iI (U 11 0)), .ref q2, .ref q2, .ref (A 30 2)]) rfl rfl ?_
            refine t_L (L' := [(q1, (30, (100 + (U 43 0).toNat)), c1), (q2, (13, (U 43 0).toNat), .inr (15, [.int (iI 0), .int (iI 0), .int (iI 0), .null, .null, .int (iI 0)]))]) rfl ?_
            refine t_run X 3 (pc1 := 109) (ls1 := [_, _, _, _]) (st1 := [_, _, _, _, _, _, _]) rfl ?_
            refine t_eq (st' := [.ref q1, .int (iI y), .int (iI c), .int (iI (U 43 0)), .ref q2, .ref q2, .ref (A 30 2)]) rfl (by rw [show U 11 0 = U 43 0 by omega]) ?_
            refine t_callI X [1, 0] [] rfl mX1_233 (tc_callInit0 z.2.1 EV (q := q2) (a := q1) (c := c) (y := y) (n := (uWay U (c % 3) y).1) (x0 := (uWay U (c % 3) y).2.1) (x1 := (uWay U (c % 3) y).2.2) (by omega) (by omega) (fun k hk => by have h9 : -1 ≤ U 9 k ∧ U 9 k < U 11 0 := uI9 hI (j := (k : Int)) (by omega) (by omega); omega) (fun c j hc hj => by have := uI31 hI (j := (c : Int)) (by omega) (by omega); have h9 : U 31 ((c : Int)).toNat = U 31 c := rfl; omega) hO.2 hI) rfl rfl (fun t h => by rcases h with h | h | h <;> (try rw [h]) <;> first | (show ¬ (_ : Nat) = 9; omega) | (show ¬ t.1 = 9; omega)) (fun _ h => by cases h) rfl rfl (Nat.le_of_ble_eq_true rfl) (gFit.of hR (by decide) (Nat.le_of_ble_eq_true rfl) (Nat.le_of_ble_eq_true rfl)) (fun _ h => h.elim) (fun v9 A9 U9 L9 h9 => ?_)
            obtain ⟨rfl, h7, h8, -⟩ := h9
            subst h7
            subst h8
            refine t_drop ?_
            have e11 : (uNew U c y (uWay U (c % 3) y)) 11 0 = U 43 0 := (uCo_k (by decide) _).trans (by show U 11 0 = U 43 0; omega)
            have e43 : (uNew U c y (uWay U (c % 3) y)) 43 0 = U 43 0 + 1 := (uCo_k (by decide) _).trans (by show vS _ 43 0 _ 43 0 = _; rw [vS_s])
            have eK : ∀ m : Nat, m < 100 → (aS (aS A 13 (U 43 0).toNat q2) 30 (100 + (U 43 0).toNat) q1) 30 m = A 30 m := fun m hm => (aS_n (Or.inr (by omega))).trans rfl
            have eA : (aS (aS A 13 (U 43 0).toNat q2) 30 (100 + (U 43 0).toNat) q1) 13 (U 43 0).toNat = q2 := (aS_n (Or.inl (by decide))).trans aS_s
            refine t_eq (st' := [.ref q2, .ref (A 30 2)]) rfl rfl ?_
            refine t_eq (st' := [.ref q2, .ref ((aS (aS A 13 (U 43 0).toNat q2) 30 (100 + (U 43 0).toNat) q1) 30 2)]) rfl (by rw [eK 2 (by omega)]) ?_
            refine t_callV X [] [] rfl mX1_50 (tc_add2 z.2.1 EV (A := (aS (aS A 13 (U 43 0).toNat q2) 30 (100 + (U 43 0).toNat) q1)) (U := (uNew U c y (uWay U (c % 3) y))) (by omega) (by omega) (by rw [e11]; exact eA)) (fun M h _ => gAL_at (h.2.1 2 (by unfold alL; omega))) rfl rfl (fun t h => by rcases h with h | ⟨h, -⟩; (rw [h]; exact Nat.ne_of_beq_eq_false rfl); show ¬ t.1 = 9; omega) (fun _ h => by cases h) rfl rfl (Nat.le_of_ble_eq_true rfl) (gFit.of hR (by decide) (Nat.le_of_ble_eq_true rfl) (Nat.le_of_ble_eq_true rfl)) (fun _ h => h.elim) (fun v9 A9 U9 L9 h9 => ?_)
            obtain ⟨rfl, h7, h8, rfl⟩ := h9
            subst h7
            subst h8
            refine t_eq (st' := [.int (iI 1)]) rfl rfl ?_
            refine t_run X 2 (pc1 := 117) (ls1 := [_, _, _, _]) (st1 := [_]) rfl ?_
            refine t_get X (10, 0) (v := .ref ((aS (aS A 13 (U 43 0).toNat q2) 30 (100 + (U 43 0).toNat) q1) 30 2)) rfl fX1_35 sC_10 rfl ?_
            refine t_callV X [] [] rfl mX1_146 (tc_alsizeN z.2.1 EV (i := 2) (by unfold alL; omega) (n := (uNew U c y (uWay U (c % 3) y)) 11 0 + 1) (by show vS (uNew U c y (uWay U (c % 3) y)) 11 0 ((uNew U c y (uWay U (c % 3) y)) 11 0 + 1) 11 0 = _; exact vS_s) (by omega)) (fun M h _ => gAL_at (h.2.1 2 (by unfold alL; omega))) rfl rfl (fun _ h => h.elim) (fun _ _ h => h) rfl rfl (Nat.le_of_ble_eq_true rfl) (gFit.of hR (by decide) (Nat.le_of_ble_eq_true rfl) (Nat.le_of_ble_eq_true rfl)) (fun _ h => h.elim) (fun v9 A9 U9 L9 h9 => ?_)
            obtain ⟨rfl, h7, h8, rfl⟩ := h9
            obtain rfl := h7.symm
            obtain rfl := h8.symm
            refine t_eq (st' := [.int (iI ((uNew U c y (uWay U (c % 3) y)) 11 0 + 1))]) rfl rfl ?_
            refine t_run X 2 (pc1 := 125) (ls1 := [_, _, _, _]) (st1 := [_]) rfl ?_
            refine t_eq (ls' := [some (.ref (A 10 0)), some (.int (iI c)), some (.int (iI y)), some (.ref q1)]) (st' := [.int (iI (((uNew U c y (uWay U (c % 3) y)) 11 0 + 1) - 1))]) (by first | rfl | (simp only [iI_add, iI_sub, iI_mul, iI_neg]; done) | (simp only [iI_add, iI_sub, iI_mul, iI_neg] <;> rfl)) (by first | rfl | (simp only [iI_add, iI_sub, iI_mul, iI_neg]; done) | (simp only [iI_add, iI_sub, iI_mul, iI_neg] <;> rfl)) ?_
            have e9 : uCall U c y = (U 11 0, vS (uNew U c y (uWay U (c % 3) y)) 11 0 ((uNew U c y (uWay U (c % 3) y)) 11 0 + 1)) := by rw [uCall, if_neg (by omega)]
            exact t_iret X hQ rfl rfl (by omega) (by omega) ⟨⟨by rw [e9]; congr 3; show _ = U 11 0; omega, rfl, by rw [e9]⟩, by omega⟩
          · refine t_L (L' := [(q1, (30, (100 + (U 43 0).toNat)), c1), (d, (1000, (100 + (U 43 0).toNat)), c2)]) rfl ?_
            refine t_eq (st' := [.ref q1]) rfl (by rw [if_neg hw9]; rfl) ?_
            refine t_run X 5 (pc1 := 92) (ls1 := [_, _, _, _]) (st1 := [_]) rfl ?_
            refine t_get X (10, 0) (v := .ref (A 30 2)) rfl fX1_35 sC_10 rfl ?_
            refine t_new X (13, (U 43 0).toNat) rfl nX1_121 (rc hR (Nat.le_of_ble_eq_true rfl)) (rs hR (Nat.le_of_ble_eq_true rfl)) (fun q3 => ?_)
            refine t_L (L' := [(q1, (30, (100 + (U 43 0).toNat)), c1), (d, (1000, (100 + (U 43 0).toNat)), c2), (q3, (13, (U 43 0).toNat), .inr (15, [.int (iI 0), .int (iI 0), .int (iI 0), .null, .null, .int (iI 0)]))]) rfl ?_
            refine t_run X 2 (pc1 := 100) (ls1 := [_, _, _, _]) (st1 := [_, _, _, _]) rfl ?_
            refine t_get X (10, 0) (v := .ref (A 30 2)) rfl fX1_35 sC_10 rfl ?_
            refine t_callV X [] [0, 1, 2] rfl mX1_146 (tc_alsize z.2.1 EV (i := 2) (by unfold alL; omega) (by show 0 ≤ (U 11 0); omega)) (fun M h _ => gAL_at (h.2.1 2 (by unfold alL; omega))) rfl rfl (fun _ h => h.elim) (fun _ _ h => h) rfl rfl (Nat.le_of_ble_eq_true rfl) (gFit.of hR (by decide) (Nat.le_of_ble_eq_true rfl) (Nat.le_of_ble_eq_true rfl)) (fun _ h => h.elim) (fun v9 A9 U9 L9 h9 => ?_)
            obtain ⟨rfl, h7, h8, rfl⟩ := h9
            obtain rfl := h7.symm
            obtain rfl := h8.symm
            refine t_eq (st' := [.int (iI (U 11 0)), .ref q3, .ref q3, .ref (A 30 2)]) rfl rfl ?_
            refine t_L (L' := [(q1, (30, (100 + (U 43 0).toNat)), c1), (d, (1000, (100 + (U 43 0).toNat)), c2), (q3, (13, (U 43 0).toNat), .inr (15, [.int (iI 0), .int (iI 0), .int (iI 0), .null, .null, .int (iI 0)]))]) rfl ?_
            refine t_run X 3 (pc1 := 109) (ls1 := [_, _, _, _]) (st1 := [_, _, _, _, _, _, _]) rfl ?_
            refine t_eq (st' := [.ref q1, .int (iI y), .int (iI c), .int (iI (U 43 0)), .ref q3, .ref q3, .ref (A 30 2)]) rfl (by rw [show U 11 0 = U 43 0 by omega]) ?_
            refine t_callI X [2, 0, 1] [] rfl mX1_233 (tc_callInitN z.2.1 EV (q := q3) (a := q1) (c := c) (y := y) (n := (uWay U (c % 3) y).1) (x0 := (uWay U (c % 3) y).2.1) (x1 := (uWay U (c % 3) y).2.2) (by omega) (by omega) (fun k hk => by have h9 : -1 ≤ U 9 k ∧ U 9 k < U 11 0 := uI9 hI (j := (k : Int)) (by omega) (by omega); omega) (fun c j hc hj => by have := uI31 hI (j := (c : Int)) (by omega) (by omega); have h9 : U 31 ((c : Int)).toNat = U 31 c := rfl; omega) hO.2 hI) rfl rfl (fun t h => by rcases h with h | h | h <;> (try rw [h]) <;> first | (show ¬ (_ : Nat) = 9; omega) | (show ¬ t.1 = 9; omega)) (fun _ h => by cases h) rfl rfl (Nat.le_of_ble_eq_true rfl) (gFit.of hR (by decide) (Nat.le_of_ble_eq_true rfl) (Nat.le_of_ble_eq_true rfl)) (fun _ h => h.elim) (fun v9 A9 U9 L9 h9 => ?_)
            obtain ⟨rfl, h7, h8, -⟩ := h9
            subst h7
            subst h8
            refine t_drop ?_
            have e11 : (uNew U c y (uWay U (c % 3) y)) 11 0 = U 43 0 := (uCo_k (by decide) _).trans (by show U 11 0 = U 43 0; omega)
            have e43 : (uNew U c y (uWay U (c % 3) y)) 43 0 = U 43 0 + 1 := (uCo_k (by decide) _).trans (by show vS _ 43 0 _ 43 0 = _; rw [vS_s])
            have eK : ∀ m : Nat, m < 100 → (aS (aS A 13 (U 43 0).toNat q3) 30 (100 + (U 43 0).toNat) q1) 30 m = A 30 m := fun m hm => (aS_n (Or.inr (by omega))).trans rfl
            have eA : (aS (aS A 13 (U 43 0).toNat q3) 30 (100 + (U 43 0).toNat) q1) 13 (U 43 0).toNat = q3 := (aS_n (Or.inl (by decide))).trans aS_s
            refine t_eq (st' := [.ref q3, .ref (A 30 2)]) rfl rfl ?_
            refine t_eq (st' := [.ref q3, .ref ((aS (aS A 13 (U 43 0).toNat q3) 30 (100 + (U 43 0).toNat) q1) 30 2)]) rfl (by rw [eK 2 (by omega)]) ?_
            refine t_callV X [] [] rfl mX1_50 (tc_add2 z.2.1 EV (A := (aS (aS A 13 (U 43 0).toNat q3) 30 (100 + (U 43 0).toNat) q1)) (U := (uNew U c y (uWay U (c % 3) y))) (by omega) (by omega) (by rw [e11]; exact eA)) (fun M h _ => gAL_at (h.2.1 2 (by unfold alL; omega))) rfl rfl (fun t h => by rcases h with h | ⟨h, -⟩; (rw [h]; exact Nat.ne_of_beq_eq_false rfl); show ¬ t.1 = 9; omega) (fun _ h => by cases h) rfl rfl (Nat.le_of_ble_eq_true rfl) (gFit.of hR (by decide) (Nat.le_of_ble_eq_true rfl) (Nat.le_of_ble_eq_true rfl)) (fun _ h => h.elim) (fun v9 A9 U9 L9 h9 => ?_)
            obtain ⟨rfl, h7, h8, rfl⟩ := h9
            subst h7
            subst h8
            refine t_eq (st' := [.int (iI 1)]) rfl rfl ?_
            refine t_run X 2 (pc1 := 117) (ls1 := [_, _, _, _]) (st1 := [_]) rfl ?_
            refine t_get X (10, 0) (v := .ref ((aS (aS A 13 (U 43 0).toNat q3) 30 (100 + (U 43 0).toNat) q1) 30 2)) rfl fX1_35 sC_10 rfl ?_
            refine t_callV X [] [] rfl mX1_146 (tc_alsizeN z.2.1 EV (i := 2) (by unfold alL; omega) (n := (uNew U c y (uWay U (c % 3) y)) 11 0 + 1) (by show vS (uNew U c y (uWay U (c % 3) y)) 11 0 ((uNew U c y (uWay U (c % 3) y)) 11 0 + 1) 11 0 = _; exact vS_s) (by omega)) (fun M h _ => gAL_at (h.2.1 2 (by unfold alL; omega))) rfl rfl (fun _ h => h.elim) (fun _ _ h => h) rfl rfl (Nat.le_of_ble_eq_true rfl) (gFit.of hR (by decide) (Nat.le_of_ble_eq_true rfl) (Nat.le_of_ble_eq_true rfl)) (fun _ h => h.elim) (fun v9 A9 U9 L9 h9 => ?_)
            obtain ⟨rfl, h7, h8, rfl⟩ := h9
            obtain rfl := h7.symm
            obtain rfl := h8.symm
            refine t_eq (st' := [.int (iI ((uNew U c y (uWay U (c % 3) y)) 11 0 + 1))]) rfl rfl ?_
            refine t_run X 2 (pc1 := 125) (ls1 := [_, _, _, _]) (st1 := [_]) rfl ?_
            refine t_eq (ls' := [some (.ref (A 10 0)), some (.int (iI c)), some (.int (iI y)), some (.ref q1)]) (st' := [.int (iI (((uNew U c y (uWay U (c % 3) y)) 11 0 + 1) - 1))]) (by first | rfl | (simp only [iI_add, iI_sub, iI_mul, iI_neg]; done) | (simp only [iI_add, iI_sub, iI_mul, iI_neg] <;> rfl)) (by first | rfl | (simp only [iI_add, iI_sub, iI_mul, iI_neg]; done) | (simp only [iI_add, iI_sub, iI_mul, iI_neg] <;> rfl)) ?_
            have e9 : uCall U c y = (U 11 0, vS (uNew U c y (uWay U (c % 3) y)) 11 0 ((uNew U c y (uWay U (c % 3) y)) 11 0 + 1)) := by rw [uCall, if_neg (by omega)]
            exact t_iret X hQ rfl rfl (by omega) (by omega) ⟨⟨by rw [e9]; congr 3; show _ = U 11 0; omega, rfl, by rw [e9]⟩, by omega⟩
