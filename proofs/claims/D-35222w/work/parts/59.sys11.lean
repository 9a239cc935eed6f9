/-! THE SYSTEM's methods walked: asking; a wagon comes -/
section
variable {z : gZ} {S : gS} {EV : gEV} {Q : State → Prop} {M0 : gM} {T : gTag → Prop} {A : gAd} {U : gV} {L : gLL} {k n pc idx : Nat} {ls : List (Option Value)} {st : List Value}
theorem t_getA (X : CX z S EV) (t : gTag) {a : Nat} (ha : A t.1 t.2 = a) {ci j kind : Nat} {ty : FieldType} {fs : List Value} {v : Value} (hT : S.2.2.2.2.1 pc = some (.getfield idx, 3)) (F : gFld S.2.1 idx ci j ty kind) (hs : sC EV A U t = some (.inr (ci, fs))) (hv : fs[j]? = some v)
    (kk : gTd z S EV Q T M0 A U L k n (pc + 3) ls (v :: st)) : gTd z S EV Q T M0 A U L k n pc ls (.ref a :: st) := by
  subst ha
  exact t_get X t hT F hs hv kk
end
def uAskN (U : gV) (c g : Int) : gV := vS (vS (uB U (U 13 c.toNat) (U 14 c.toNat) g) 16 c.toNat (U 42 0)) 17 0 (vS (uB U (U 13 c.toNat) (U 14 c.toNat) g) 16 c.toNat (U 42 0) 17 0 + 1)
def uAsk (U : gV) (c g : Int) : Int × gV := if uFind U (U 14 c.toNat) g < 0 then (-1, U) else if U 16 c.toNat < 0 then (uFind U (U 14 c.toNat) g, vS (uAdd (uAskN U c g) (U 42 0) (uFind U (U 14 c.toNat) g)) 5 (uFind U (U 14 c.toNat) g).toNat (U 42 0)) else
  (uFind U (U 14 c.toNat) g, vS (uAdd U (U 16 c.toNat) (uFind U (U 14 c.toNat) g)) 5 (uFind U (U 14 c.toNat) g).toNat (U 16 c.toNat))
def uWag (U : gV) (p : Int) : gV := vS (uEv (uPut (vS (uW U p) 2 0 (uW U p 2 0 + 1)) p (U 41 0)) 0 (U 41 0) p 0) 33 0 (uEv (uPut (vS (uW U p) 2 0 (uW U p 2 0 + 1)) p (U 41 0)) 0 (U 41 0) p 0 33 0 + 1)
set_option maxHeartbeats 1000000 in
theorem tc_askU (l : Launch) (EV : gEV) {A : gAd} {U : gV} {x g : Int} (hx : inR x) (hg : inR g) (hm : (0 ≤ x ∧ x < U 11 0) → ¬ U 15 x.toNat = 0 → ¬ U 16 x.toNat < 0 → ¬ uFind U (U 14 x.toNat) g < 0 → U 23 (U 16 x.toNat).toNat < 30) (hI : uI U) : TC l yX1_ask cX1_ask 5 (some .int) 12 20 4000 EV tSys [.ref (A 10 0), .int (iI x), .int (iI g)] A U [] (fun w A9 U9 L9 => (w = some (.int (iI (uAsk U x g).1)) ∧ A9 10 0 = A 10 0 ∧ U9 = (uAsk U x g).2) ∧ (0 ≤ x ∧ x < U 11 0) ∧ isGr g ∧ ¬ U 15 x.toNat = 0 ∧ (U 16 x.toNat < 0 ∧ U 17 0 < 40 ∨ ¬ U 16 x.toNat < 0 ∧ U 19 (U 16 x.toNat).toNat = g)) (fun E => E = cIOB ∧ ¬ (0 ≤ x ∧ x < U 11 0) ∨ E = cIAE ∧ (0 ≤ x ∧ x < U 11 0) ∧ ¬ isGr g ∨ E = cISE ∧ (0 ≤ x ∧ x < U 11 0) ∧ isGr g ∧ ¬ (¬ U 15 x.toNat = 0 ∧ (U 16 x.toNat < 0 ∧ U 17 0 < 40 ∨ ¬ U 16 x.toNat < 0 ∧ U 19 (U 16 x.toNat).toNat = g))) := by
  refine t_body tbX1_ask tkX1_ask (by decide) (by intro v hv; simp only [List.mem_cons, List.not_mem_nil, or_false] at hv; rcases hv with rfl | rfl | rfl <;> rfl) (Nat.le_of_ble_eq_true rfl) (fun M0 z Q X hl hR hQ hE => ?_)
  subst hl
  have hu := uIs hI
  unfold uS at hu
  have hdb : ∀ t9 : gTag, tO2 (12, (U 42 0).toNat) (30, 10 + (U 42 0).toNat) t9 → tDead EV A U t9 := fun t9 h => by rcases h with h | h <;> subst h; (exact tDead_c (by decide) (if_neg (by show ¬ ((U 42 0).toNat : Int) < U 42 0; omega))); exact tDead_al (by unfold alL; omega)
  refine t_eq (ls' := [some (.ref (A 10 0)), some (.int (iI x)), some (.int (iI g)), none, none]) (st' := []) rfl rfl ?_
  refine t_run X 2 (pc1 := 2) (ls1 := [_, _, _, _, _]) (st1 := [_, _]) rfl ?_
  refine t_callV X [] [] rfl mX1_150 (tc_named z.2.1 EV (x := x) (by omega) hI) (fun M h _ => ⟨_, _, h.1 (10, 0) _ sC_10⟩) rfl rfl (fun _ h => h.elim) (fun _ h => by cases h) rfl rfl (Nat.le_of_ble_eq_true rfl) (gFit.of hR (by decide) (Nat.le_of_ble_eq_true rfl) (Nat.le_of_ble_eq_true rfl)) (fun E h => t_out X hQ hE (by omega) (by omega) (Or.inl h)) (fun v9 A9 U9 L9 h9 => ?_)
  obtain ⟨⟨rfl, h7, h8, rfl⟩, l2⟩ := h9
  obtain rfl := h7.symm
  obtain rfl := h8.symm
  refine t_eq (st' := [.ref (A 13 (x.toNat))]) rfl rfl ?_
  have b15 := uI15 hI (j := x) (by omega) (by omega)
  have b16 := uI16 hI (j := x) (by omega) (by omega)
  have b13 := uI13 hI (j := x) (by omega) (by omega)
  have b14 := uI14 hI (j := x) (by omega) (by omega)
  refine t_run X 4 (pc1 := 9) (ls1 := [_, _, _, _, _]) (st1 := [_, _, _]) rfl ?_
  refine t_callS X [] [] rfl mX1_139 (tc_limited z.2.1 EV (v := g) (lo := 0) (hi := 3) (by omega) (by omega) (by omega)) rfl rfl (fun _ h => h.elim) (fun _ h => by cases h) rfl rfl (Nat.le_of_ble_eq_true rfl) (gFit.of hR (by decide) (Nat.le_of_ble_eq_true rfl) (Nat.le_of_ble_eq_true rfl)) (fun E h => t_out X hQ hE (by omega) (by omega) (Or.inr (Or.inl ⟨h.1, by omega, by have h2 := h.2; omega⟩))) (fun v9 A9 U9 L9 h9 => ?_)
  obtain ⟨⟨rfl, h7, h8, rfl⟩, l9⟩ := h9
  obtain rfl := h7.symm
  obtain rfl := h8.symm
  refine t_eq (st' := []) rfl rfl ?_
  refine t_run X 1 (pc1 := 13) (ls1 := [_, _, _, _, _]) (st1 := [_]) rfl ?_
  refine t_get X (13, (x.toNat)) (v := .int (iI (U 15 x.toNat))) rfl fX1_123 (sC_13 (by first | omega | (show _ < U 43 0; omega) | (simp [vS]; omega))) rfl ?_
  refine t_eq (ls' := [some (.ref (A 10 0)), some (.int (iI x)), some (.int (iI g)), some (.ref (A 13 (x.toNat))), none]) (st' := [.int (iI (bI (¬ (U 15 x.toNat) = 0)))]) rfl (by rw [bI_of (x := (U 15 x.toNat)) (by omega)]) ?_
  refine t_callS X [] [] rfl mX1_154 (tc_allowed z.2.1 EV (¬ (U 15 x.toNat) = 0)) rfl rfl (fun _ h => h.elim) (fun _ h => by cases h) rfl rfl (Nat.le_of_ble_eq_true rfl) (gFit.of hR (by decide) (Nat.le_of_ble_eq_true rfl) (Nat.le_of_ble_eq_true rfl)) (fun E h => t_out X hQ hE (by omega) (by omega) (Or.inr (Or.inr ⟨h.1, by omega, by omega, by omega⟩))) (fun v9 A9 U9 L9 h9 => ?_)
  obtain ⟨⟨rfl, h7, h8, rfl⟩, l16⟩ := h9
  obtain rfl := h7.symm
  obtain rfl := h8.symm
  refine t_eq (st' := []) rfl rfl ?_
  refine t_run X 1 (pc1 := 20) (ls1 := [_, _, _, _, _]) (st1 := [_]) rfl ?_
  by_cases n1 : (U 16 x.toNat) < 0
  · refine t_get X (13, (x.toNat)) (v := .null) rfl fX1_236 (sC_13 (by first | omega | (show _ < U 43 0; omega) | (simp [vS]; omega))) (by show some (rfA A 12 (U 16 x.toNat)) = _; rw [rfA_0 n1]) ?_
    refine t_run X 2 (pc1 := 27) (ls1 := [_, _, _, _, _]) (st1 := [_]) rfl ?_
    refine t_get X (10, 0) (v := .ref (A 30 3)) rfl fX1_38 sC_10 rfl ?_
    refine t_callV X [] [] rfl mX1_146 (tc_alsize z.2.1 EV (i := 3) (by unfold alL; omega) (by show 0 ≤ (U 17 0); omega)) (fun M h _ => gAL_at (h.2.1 3 (by unfold alL; omega))) rfl rfl (fun _ h => h.elim) (fun _ _ h => h) rfl rfl (Nat.le_of_ble_eq_true rfl) (gFit.of hR (by decide) (Nat.le_of_ble_eq_true rfl) (Nat.le_of_ble_eq_true rfl)) (fun _ h => h.elim) (fun v9 A9 U9 L9 h9 => ?_)
    obtain ⟨rfl, h7, h8, rfl⟩ := h9
    obtain rfl := h7.symm
    obtain rfl := h8.symm
    refine t_eq (st' := [.int (iI (U 17 0))]) rfl rfl ?_
    refine t_run X 1 (pc1 := 35) (ls1 := [_, _, _, _, _]) (st1 := [_, _]) rfl ?_
    refine t_br X (pc1 := 42) (st1 := []) rfl (fun b9 => ?_) (fun b9 => ?_)
    · have c35 : 40 ≤ (U 17 0) := cLe b9 (by omega) (by omega)
      refine t_run X 2 (pc1 := 62) (ls1 := [_, _, _, _, _]) (st1 := [_]) rfl ?_
      refine t_eq (st' := [.int (iI (bI (False)))]) rfl rfl ?_
      refine t_callS X [] [] rfl mX1_154 (tc_allowed z.2.1 EV (False)) rfl rfl (fun _ h => h.elim) (fun _ _ h => h) rfl rfl (Nat.le_of_ble_eq_true rfl) (gFit.of hR (by decide) (Nat.le_of_ble_eq_true rfl) (Nat.le_of_ble_eq_true rfl)) (fun E h => t_out X hQ hE (by omega) (by omega) (Or.inr (Or.inr ⟨h.1, by omega, by omega, by omega⟩))) (fun v9 A9 U9 L9 h9 => ?_)
      exact h9.2.elim
    · have c35 : (U 17 0) < 40 := cNe b9 (by omega) (by omega)
      refine t_run X 2 (pc1 := 62) (ls1 := [_, _, _, _, _]) (st1 := [_]) rfl ?_
      refine t_eq (st' := [.int (iI (bI (True)))]) rfl rfl ?_
      refine t_callS X [] [] rfl mX1_154 (tc_allowed z.2.1 EV (True)) rfl rfl (fun _ h => h.elim) (fun _ _ h => h) rfl rfl (Nat.le_of_ble_eq_true rfl) (gFit.of hR (by decide) (Nat.le_of_ble_eq_true rfl) (Nat.le_of_ble_eq_true rfl)) (fun E h => (h.2 trivial).elim) (fun v9 A9 U9 L9 h9 => ?_)
      obtain ⟨⟨rfl, h7, h8, rfl⟩, -⟩ := h9
      obtain rfl := h7.symm
      obtain rfl := h8.symm
      refine t_eq (st' := []) rfl rfl ?_
      refine t_run X 2 (pc1 := 67) (ls1 := [_, _, _, _, _]) (st1 := [_, _]) rfl ?_
      refine t_get X (13, (x.toNat)) (v := .int (iI (U 14 x.toNat))) rfl fX1_127 (sC_13 (by first | omega | (show _ < U 43 0; omega) | (simp [vS]; omega))) rfl ?_
      refine t_run X 1 (pc1 := 71) (ls1 := [_, _, _, _, _]) (st1 := [_, _, _]) rfl ?_
      refine t_callV X [] [] rfl mX1_240 (tc_foundW z.2.1 EV (y := U 14 x.toNat) (g := g) (by omega) (by omega) hI) (fun M h _ => ⟨_, _, h.1 (10, 0) _ sC_10⟩) rfl rfl (fun _ h => h.elim) (fun _ _ h => h) rfl rfl (Nat.le_of_ble_eq_true rfl) (gFit.of hR (by decide) (Nat.le_of_ble_eq_true rfl) (Nat.le_of_ble_eq_true rfl)) (fun _ h => h.elim) (fun v9 A9 U9 L9 h9 => ?_)
      obtain ⟨rfl, h7, h8, rfl⟩ := h9
      obtain rfl := h7.symm
      obtain rfl := h8.symm
      have bfo : -1 ≤ uFind U (U 14 x.toNat) g ∧ uFind U (U 14 x.toNat) g < U 2 0 := (uFo_r hI (y := U 14 x.toNat) (g := g) (by omega) 5 (by omega)).2
      obtain ⟨w, hw⟩ : ∃ w : Int, uFind U (U 14 x.toNat) g = w := ⟨_, rfl⟩
      rw [hw] at bfo
      by_cases nf : w < 0
      · refine t_eq (st' := [.null]) rfl (by rw [hw, rfA_0 nf]; rfl) ?_
        refine t_run X 4 (pc1 := 82) (ls1 := [_, _, _, _, _]) (st1 := [_]) rfl ?_
        have e9 : uAsk U x g = (-1, U) := by rw [uAsk, hw, if_pos nf]
        exact t_iret X hQ rfl rfl (by omega) (by omega) ⟨⟨by rw [e9], rfl, by rw [e9]⟩, by omega⟩
      · refine t_eq (st' := [.ref (A 11 (w.toNat))]) rfl (by rw [hw, rfA_1 nf]; rfl) ?_
        refine t_run X 4 (pc1 := 84) (ls1 := [_, _, _, _, _]) (st1 := [_]) rfl ?_
        refine t_get X (13, (x.toNat)) (v := .null) rfl fX1_236 (sC_13 (by first | omega | (show _ < U 43 0; omega) | (simp [vS]; omega))) (by show some (rfA A 12 (U 16 x.toNat)) = _; rw [rfA_0 n1]) ?_
        refine t_run X 2 (pc1 := 91) (ls1 := [_, _, _, _, _]) (st1 := [_]) rfl ?_
        refine t_new X (12, (U 42 0).toNat) rfl nX1_158 (rc hR (Nat.le_of_ble_eq_true rfl)) (rs hR (Nat.le_of_ble_eq_true rfl)) (fun q2 => ?_)
        refine t_L (L' := [(q2, (12, (U 42 0).toNat), .inr (16, [.int (iI 0), .int (iI 0), .int (iI 0), .int (iI 0), .null, .null, .int (iI 0)]))]) rfl ?_
        refine t_run X 2 (pc1 := 96) (ls1 := [_, _, _, _, _]) (st1 := [_, _, _, _]) rfl ?_
        refine t_get X (10, 0) (v := .ref (A 30 3)) rfl fX1_38 sC_10 rfl ?_
        refine t_callV X [] [0] rfl mX1_146 (tc_alsize z.2.1 EV (i := 3) (by unfold alL; omega) (by show 0 ≤ (U 17 0); omega)) (fun M h _ => gAL_at (h.2.1 3 (by unfold alL; omega))) rfl rfl (fun _ h => h.elim) (fun _ _ h => h) rfl rfl (Nat.le_of_ble_eq_true rfl) (gFit.of hR (by decide) (Nat.le_of_ble_eq_true rfl) (Nat.le_of_ble_eq_true rfl)) (fun _ h => h.elim) (fun v9 A9 U9 L9 h9 => ?_)
        obtain ⟨rfl, h7, h8, rfl⟩ := h9
        obtain rfl := h7.symm
        obtain rfl := h8.symm
        refine t_eq (st' := [.int (iI (U 17 0)), .ref q2, .ref q2, .ref (A 13 (x.toNat))]) rfl rfl ?_
        refine t_L (L' := [(q2, (12, (U 42 0).toNat), .inr (16, [.int (iI 0), .int (iI 0), .int (iI 0), .int (iI 0), .null, .null, .int (iI 0)]))]) rfl ?_
        refine t_run X 1 (pc1 := 103) (ls1 := [_, _, _, _, _]) (st1 := [_, _, _, _, _]) rfl ?_
        refine t_get X (13, (x.toNat)) (v := .int (iI (U 13 x.toNat))) rfl fX1_215 (sC_13 (by first | omega | (show _ < U 43 0; omega) | (simp [vS]; omega))) rfl ?_
        refine t_run X 1 (pc1 := 107) (ls1 := [_, _, _, _, _]) (st1 := [_, _, _, _, _, _]) rfl ?_
        refine t_get X (13, (x.toNat)) (v := .int (iI (U 14 x.toNat))) rfl fX1_127 (sC_13 (by first | omega | (show _ < U 43 0; omega) | (simp [vS]; omega))) rfl ?_
        refine t_run X 1 (pc1 := 111) (ls1 := [_, _, _, _, _]) (st1 := [_, _, _, _, _, _, _]) rfl ?_
        refine t_eq (st' := [.int (iI g), .int (iI (U 14 x.toNat)), .int (iI (U 13 x.toNat)), .int (iI (U 42 0)), .ref q2, .ref q2, .ref (A 13 (x.toNat))]) rfl (by rw [show U 17 0 = U 42 0 by omega]) ?_
        refine t_callI X [0] [] rfl mX1_243 (TC.ofJ (jc_booking_init z.2.1 EV (a := q2) (t := (12, (U 42 0).toNat)) (u := (30, 10 + (U 42 0).toNat)) (by simp)) (fun _ _ _ => trivial) hdb) rfl rfl (fun t h => by rcases h with h | h <;> rw [h] <;> exact Nat.ne_of_beq_eq_false rfl) (fun _ h => by cases h) rfl rfl (Nat.le_of_ble_eq_true rfl) (gFit.of hR (by decide) (Nat.le_of_ble_eq_true rfl) (Nat.le_of_ble_eq_true rfl)) (fun _ h => h.elim) (fun v9 A9 U9 L9 h9 => ?_)
        obtain ⟨⟨qb, rfl, rfl⟩, h7, h8⟩ := h9
        obtain rfl := h7.symm
        obtain rfl := h8.symm
        refine t_eq (st' := [.ref q2, .ref (A 13 (x.toNat))]) rfl rfl ?_
        refine t_L (L' := [(qb, (30, 10 + (U 42 0).toNat), .inr (1, [.int (iI 0), .ref (EV.2.2.2 0), .int (iI 0)])), (q2, (12, (U 42 0).toNat), .inr (16, [.int (iI (U 42 0)), .int (iI (U 13 x.toNat)), .int (iI (U 14 x.toNat)), .int (iI g), .ref qb, .ref (EV.2.2.2 (10 + 0)), .int (iI 0)]))]) rfl ?_
        refine t_take (A' := (aS (aS A 12 (U 42 0).toNat q2) 30 (10 + (U 42 0).toNat) qb)) (U' := (uB U (U 13 x.toNat) (U 14 x.toNat) g)) (L' := []) (fun M hD hL => ⟨hD.newB (by omega) (by omega) (hL.at (i := 1) rfl) ⟨0, 0, 0, hL.at (i := 0) rfl, fun h => absurd h (Nat.lt_irrefl 0)⟩ (fun w hw => by have h9 : -1 ≤ U 5 w ∧ U 5 w < U 17 0 := uI5 hI (j := (w : Int)) (by omega) (by omega); omega) (fun c hc => by have h9 : -1 ≤ U 16 c ∧ U 16 c < U 17 0 := uI16 hI (j := (c : Int)) (by omega) (by omega); omega), fun x hx => nomatch hx⟩) ?_
        have eA : (aS (aS A 12 (U 42 0).toNat q2) 30 (10 + (U 42 0).toNat) qb) 12 (U 42 0).toNat = q2 := (aS_n (Or.inl (by decide))).trans aS_s
        have e23a : (uB U (U 13 x.toNat) (U 14 x.toNat) g) 23 (U 42 0).toNat = 0 := by show vS _ 23 _ _ 23 _ = _; rw [vS_s]
        have e23b : ∀ j : Nat, ¬ j = (U 42 0).toNat → (uB U (U 13 x.toNat) (U 14 x.toNat) g) 23 j = U 23 j := fun j hj => by show vS _ 23 _ _ 23 _ = _; rw [vS_i hj]; rfl
        have e42b : (uB U (U 13 x.toNat) (U 14 x.toNat) g) 42 0 = U 42 0 + 1 := by show vS _ 42 0 (U 42 0 + 1) 42 0 = _; rw [vS_s]
        have eL : (aS (aS A 12 (U 42 0).toNat q2) 30 (10 + (U 42 0).toNat) qb) 30 (10 + (U 42 0).toNat) = qb := aS_s
        have eK : ∀ m : Nat, m < 10 → (aS (aS A 12 (U 42 0).toNat q2) 30 (10 + (U 42 0).toNat) qb) 30 m = A 30 m := fun m hm => (aS_n (Or.inr (by omega))).trans rfl
        refine t_eq (st' := [rfA (aS (aS A 12 (U 42 0).toNat q2) 30 (10 + (U 42 0).toNat) qb) 12 (U 42 0), .ref ((aS (aS A 12 (U 42 0).toNat q2) 30 (10 + (U 42 0).toNat) qb) 13 x.toNat)]) rfl (by rw [rfA_1 (by omega), eA]; rfl) ?_
        refine t_pu16 X (x := U 42 0) rfl fX1_236 (by show _ < U 43 0; omega) (show ¬ (13 : Nat) = 9 by decide) (fun _ h => nomatch h) ?_
        refine t_run X 1 (pc1 := 118) (ls1 := [_, _, _, _, _]) (st1 := [_]) rfl ?_
        refine t_get X (10, 0) (v := .ref ((aS (aS A 12 (U 42 0).toNat q2) 30 (10 + (U 42 0).toNat) qb) 30 3)) rfl fX1_38 sC_10 rfl ?_
        refine t_run X 1 (pc1 := 122) (ls1 := [_, _, _, _, _]) (st1 := [_, _]) rfl ?_
        refine t_get X (13, x.toNat) (v := .ref ((aS (aS A 12 (U 42 0).toNat q2) 30 (10 + (U 42 0).toNat) qb) 12 ((U 42 0).toNat))) rfl fX1_236 (sC_13 (by show _ < U 43 0; omega)) (congrArg some (by exact (congrArg (rfA _ 12) vS_s).trans (rfA_1 (by omega)))) ?_
        refine t_callV X [] [] rfl mX1_50 (tc_add3 z.2.1 EV (A := (aS (aS A 12 (U 42 0).toNat q2) 30 (10 + (U 42 0).toNat) qb)) (U := (vS (uB U (U 13 x.toNat) (U 14 x.toNat) g) 16 x.toNat (U 42 0))) (by show 0 ≤ U 17 0 ∧ U 17 0 ≤ 72; omega) (by show U 17 0 < (uB U (U 13 x.toNat) (U 14 x.toNat) g) 42 0; omega) (by show (aS (aS A 12 (U 42 0).toNat q2) 30 (10 + (U 42 0).toNat) qb) 12 (U 17 0).toNat = _; rw [show U 17 0 = U 42 0 by omega])) (fun M h _ => gAL_at (h.2.1 3 (by unfold alL; omega))) rfl rfl (fun t h => by rcases h with h | ⟨h, -⟩; (rw [h]; exact Nat.ne_of_beq_eq_false rfl); show ¬ t.1 = 9; omega) (fun _ h => by cases h) rfl rfl (Nat.le_of_ble_eq_true rfl) (gFit.of hR (by decide) (Nat.le_of_ble_eq_true rfl) (Nat.le_of_ble_eq_true rfl)) (fun _ h => h.elim) (fun v9 A9 U9 L9 h9 => ?_)
        obtain ⟨rfl, h7, h8, rfl⟩ := h9
        subst h7
        subst h8
        refine t_U (U' := (uAskN U x g)) rfl ?_
        have e16 : (uAskN U x g) 16 x.toNat = U 42 0 := by show (vS (uB U (U 13 x.toNat) (U 14 x.toNat) g) 16 x.toNat (U 42 0)) 16 x.toNat = _; exact vS_s
        have e42 : (uAskN U x g) 42 0 = U 42 0 + 1 := e42b
        have e23 : ∀ j : Nat, (uAskN U x g) 23 j = if j = (U 42 0).toNat then 0 else U 23 j := fun j => by by_cases hj : j = (U 42 0).toNat; (rw [if_pos hj, hj]; exact e23a); (rw [if_neg hj]; exact e23b j hj)
        refine t_eq (st' := [.int (iI 1)]) rfl rfl ?_
        refine t_run X 2 (pc1 := 130) (ls1 := [_, _, _, _, _]) (st1 := [_]) rfl ?_
        refine t_get X (13, x.toNat) (v := .ref ((aS (aS A 12 (U 42 0).toNat q2) 30 (10 + (U 42 0).toNat) qb) 12 ((U 42 0).toNat))) rfl fX1_236 (sC_13 (by show _ < U 43 0; omega)) (congrArg some (by exact (congrArg (rfA _ 12) e16).trans (rfA_1 (by omega)))) ?_
        refine t_get X (12, ((U 42 0).toNat)) (v := .ref ((aS (aS A 12 (U 42 0).toNat q2) 30 (10 + (U 42 0).toNat) qb) 30 (10 + (U 42 0).toNat))) rfl fX1_246 (sC_12 (by first | omega | (show _ < U 42 0; omega) | (simp [vS]; omega))) rfl ?_
        refine t_run X 1 (pc1 := 138) (ls1 := [_, _, _, _, _]) (st1 := [_, _]) rfl ?_
        refine t_callV X [] [] rfl mX1_50 (tc_addb z.2.1 EV (U := (uAskN U x g)) (b := U 42 0) (w := w) (by omega) (by omega) (fun j h0 h1 => by rw [e23]; split; (exact ⟨by decide, by decide⟩); exact (uIb hI (j := j) h0 (by omega)).2.2.2.2.2) (by rw [e23, if_pos rfl]; decide) (by show 0 ≤ _ ∧ _ < U 41 0; omega) (fun k h0 h1 => by rw [e23, if_pos rfl] at h1; omega)) (fun M h _ => gAL_at (h.2.1 _ (by unfold alL; omega))) rfl rfl (fun t h => by rcases h with h | ⟨h, -⟩; (rw [h]; exact Nat.ne_of_beq_eq_false rfl); show ¬ t.1 = 9; omega) (fun _ h => by cases h) rfl rfl (Nat.le_of_ble_eq_true rfl) (gFit.of hR (by decide) (Nat.le_of_ble_eq_true rfl) (Nat.le_of_ble_eq_true rfl)) (fun _ h => h.elim) (fun v9 A9 U9 L9 h9 => ?_)
        obtain ⟨rfl, h7, h8, rfl⟩ := h9
        subst h7
        subst h8
        have e16 : (uAdd (uAskN U x g) (U 42 0) w) 16 x.toNat = U 42 0 := e16
        refine t_eq (st' := [.int (iI 1)]) rfl rfl ?_
        refine t_run X 3 (pc1 := 145) (ls1 := [_, _, _, _, _]) (st1 := [_, _]) rfl ?_
        refine t_get X (13, x.toNat) (v := .ref ((aS (aS A 12 (U 42 0).toNat q2) 30 (10 + (U 42 0).toNat) qb) 12 ((U 42 0).toNat))) rfl fX1_236 (sC_13 (by show _ < U 43 0; omega)) (congrArg some (by exact (congrArg (rfA _ 12) e16).trans (rfA_1 (by omega)))) ?_
        refine t_eq (st' := [rfA (aS (aS A 12 (U 42 0).toNat q2) 30 (10 + (U 42 0).toNat) qb) 12 (U 42 0), .ref ((aS (aS A 12 (U 42 0).toNat q2) 30 (10 + (U 42 0).toNat) qb) 11 w.toNat)]) rfl (by rw [rfA_1 (by omega)] <;> rfl) ?_
        refine t_pu5 X (x := U 42 0) rfl fX1_89 (by show _ < U 41 0; omega) (show ¬ (11 : Nat) = 9 by decide) (fun _ h => nomatch h) ?_
        refine t_run X 1 (pc1 := 153) (ls1 := [_, _, _, _, _]) (st1 := [_]) rfl ?_
        refine t_getA X (A := (aS (aS A 12 (U 42 0).toNat q2) 30 (10 + (U 42 0).toNat) qb)) (11, w.toNat) (a := A 11 w.toNat) (v := .int (iI ((w.toNat : Nat) : Int))) (by rw [aS_n (Or.inl (show ¬ (11 : Nat) = 30 by decide)), aS_n (Or.inl (show ¬ (11 : Nat) = 12 by decide))]) rfl fX1_170 (sC_11 (by show _ < U 41 0; omega)) rfl ?_
        exact t_iret X hQ rfl rfl (by omega) (by omega) ⟨⟨by rw [uAsk, hw, if_neg nf, if_pos (by omega), show ((w.toNat : Nat) : Int) = w by omega], rfl, by rw [uAsk, hw, if_neg nf, if_pos (by omega)]⟩, by omega⟩
  · refine t_get X (13, (x.toNat)) (v := .ref (A 12 ((U 16 x.toNat).toNat))) rfl fX1_236 (sC_13 (by first | omega | (show _ < U 43 0; omega) | (simp [vS]; omega))) (by show some (rfA A 12 (U 16 x.toNat)) = _; rw [rfA_1 n1]) ?_
    refine t_run X 1 (pc1 := 46) (ls1 := [_, _, _, _, _]) (st1 := []) rfl ?_
    have bb := uIb hI (j := U 16 x.toNat) (by omega) (by omega)
    refine t_run X 1 (pc1 := 47) (ls1 := [_, _, _, _, _]) (st1 := [_]) rfl ?_
    refine t_get X (13, (x.toNat)) (v := .ref (A 12 ((U 16 x.toNat).toNat))) rfl fX1_236 (sC_13 (by first | omega | (show _ < U 43 0; omega) | (simp [vS]; omega))) (by show some (rfA A 12 (U 16 x.toNat)) = _; rw [rfA_1 n1]) ?_
    refine t_get X (12, ((U 16 x.toNat).toNat)) (v := .int (iI (U 19 (U 16 x.toNat).toNat))) rfl fX1_239 (sC_12 (by first | omega | (show _ < U 42 0; omega) | (simp [vS]; omega))) rfl ?_
    refine t_run X 1 (pc1 := 54) (ls1 := [_, _, _, _, _]) (st1 := [_, _]) rfl ?_
    refine t_br X (pc1 := 61) (st1 := []) rfl (fun b9 => ?_) (fun b9 => ?_)
    · have c54 : ¬ (U 19 (U 16 x.toNat).toNat) = g := cNq b9 (by omega) (by omega)
      refine t_run X 1 (pc1 := 62) (ls1 := [_, _, _, _, _]) (st1 := [_]) rfl ?_
      refine t_eq (st' := [.int (iI (bI (False)))]) rfl rfl ?_
      refine t_callS X [] [] rfl mX1_154 (tc_allowed z.2.1 EV (False)) rfl rfl (fun _ h => h.elim) (fun _ _ h => h) rfl rfl (Nat.le_of_ble_eq_true rfl) (gFit.of hR (by decide) (Nat.le_of_ble_eq_true rfl) (Nat.le_of_ble_eq_true rfl)) (fun E h => t_out X hQ hE (by omega) (by omega) (Or.inr (Or.inr ⟨h.1, by omega, by omega, by omega⟩))) (fun v9 A9 U9 L9 h9 => ?_)
      exact h9.2.elim
    · have c54 : (U 19 (U 16 x.toNat).toNat) = g := cEq b9 (by omega) (by omega)
      refine t_run X 2 (pc1 := 62) (ls1 := [_, _, _, _, _]) (st1 := [_]) rfl ?_
      refine t_eq (st' := [.int (iI (bI (True)))]) rfl rfl ?_
      refine t_callS X [] [] rfl mX1_154 (tc_allowed z.2.1 EV (True)) rfl rfl (fun _ h => h.elim) (fun _ _ h => h) rfl rfl (Nat.le_of_ble_eq_true rfl) (gFit.of hR (by decide) (Nat.le_of_ble_eq_true rfl) (Nat.le_of_ble_eq_true rfl)) (fun E h => (h.2 trivial).elim) (fun v9 A9 U9 L9 h9 => ?_)
      obtain ⟨⟨rfl, h7, h8, rfl⟩, -⟩ := h9
      obtain rfl := h7.symm
      obtain rfl := h8.symm
      refine t_eq (st' := []) rfl rfl ?_
      refine t_run X 2 (pc1 := 67) (ls1 := [_, _, _, _, _]) (st1 := [_, _]) rfl ?_
      refine t_get X (13, (x.toNat)) (v := .int (iI (U 14 x.toNat))) rfl fX1_127 (sC_13 (by first | omega | (show _ < U 43 0; omega) | (simp [vS]; omega))) rfl ?_
      refine t_run X 1 (pc1 := 71) (ls1 := [_, _, _, _, _]) (st1 := [_, _, _]) rfl ?_
      refine t_callV X [] [] rfl mX1_240 (tc_foundW z.2.1 EV (y := U 14 x.toNat) (g := g) (by omega) (by omega) hI) (fun M h _ => ⟨_, _, h.1 (10, 0) _ sC_10⟩) rfl rfl (fun _ h => h.elim) (fun _ _ h => h) rfl rfl (Nat.le_of_ble_eq_true rfl) (gFit.of hR (by decide) (Nat.le_of_ble_eq_true rfl) (Nat.le_of_ble_eq_true rfl)) (fun _ h => h.elim) (fun v9 A9 U9 L9 h9 => ?_)
      obtain ⟨rfl, h7, h8, rfl⟩ := h9
      obtain rfl := h7.symm
      obtain rfl := h8.symm
      have bfo : -1 ≤ uFind U (U 14 x.toNat) g ∧ uFind U (U 14 x.toNat) g < U 2 0 := (uFo_r hI (y := U 14 x.toNat) (g := g) (by omega) 5 (by omega)).2
      obtain ⟨w, hw⟩ : ∃ w : Int, uFind U (U 14 x.toNat) g = w := ⟨_, rfl⟩
      rw [hw] at bfo
      by_cases nf : w < 0
      · refine t_eq (st' := [.null]) rfl (by rw [hw, rfA_0 nf]; rfl) ?_
        refine t_run X 4 (pc1 := 82) (ls1 := [_, _, _, _, _]) (st1 := [_]) rfl ?_
        have e9 : uAsk U x g = (-1, U) := by rw [uAsk, hw, if_pos nf]
        exact t_iret X hQ rfl rfl (by omega) (by omega) ⟨⟨by rw [e9], rfl, by rw [e9]⟩, by omega⟩
      · refine t_eq (st' := [.ref (A 11 (w.toNat))]) rfl (by rw [hw, rfA_1 nf]; rfl) ?_
        refine t_run X 4 (pc1 := 84) (ls1 := [_, _, _, _, _]) (st1 := [_]) rfl ?_
        refine t_get X (13, (x.toNat)) (v := .ref (A 12 ((U 16 x.toNat).toNat))) rfl fX1_236 (sC_13 (by first | omega | (show _ < U 43 0; omega) | (simp [vS]; omega))) (by show some (rfA A 12 (U 16 x.toNat)) = _; rw [rfA_1 n1]) ?_
        refine t_run X 2 (pc1 := 130) (ls1 := [_, _, _, _, _]) (st1 := [_]) rfl ?_
        refine t_get X (13, (x.toNat)) (v := .ref (A 12 ((U 16 x.toNat).toNat))) rfl fX1_236 (sC_13 (by first | omega | (show _ < U 43 0; omega) | (simp [vS]; omega))) (by show some (rfA A 12 (U 16 x.toNat)) = _; rw [rfA_1 n1]) ?_
        refine t_get X (12, ((U 16 x.toNat).toNat)) (v := .ref (A 30 (10 + (U 16 x.toNat).toNat))) rfl fX1_246 (sC_12 (by first | omega | (show _ < U 42 0; omega) | (simp [vS]; omega))) rfl ?_
        refine t_run X 1 (pc1 := 138) (ls1 := [_, _, _, _, _]) (st1 := [_, _]) rfl ?_
        refine t_callV X [] [] rfl mX1_50 (tc_addb z.2.1 EV (U := U) (b := U 16 x.toNat) (w := w) (by omega) (by omega) (fun j h0 h1 => (uIb hI h0 (by omega)).2.2.2.2.2) (hm (by omega) (by omega) (by omega) (by rw [hw]; exact nf)) (by omega) (uR24 hI (b := U 16 x.toNat) (by omega) (by omega))) (fun M h _ => gAL_at (h.2.1 _ (by unfold alL; omega))) rfl rfl (fun t h => by rcases h with h | ⟨h, -⟩; (rw [h]; exact Nat.ne_of_beq_eq_false rfl); show ¬ t.1 = 9; omega) (fun _ h => by cases h) rfl rfl (Nat.le_of_ble_eq_true rfl) (gFit.of hR (by decide) (Nat.le_of_ble_eq_true rfl) (Nat.le_of_ble_eq_true rfl)) (fun _ h => h.elim) (fun v9 A9 U9 L9 h9 => ?_)
        obtain ⟨rfl, h7, h8, rfl⟩ := h9
        obtain rfl := h7.symm
        subst h8
        refine t_eq (st' := [.int (iI 1)]) rfl rfl ?_
        refine t_run X 3 (pc1 := 145) (ls1 := [_, _, _, _, _]) (st1 := [_, _]) rfl ?_
        refine t_get X (13, x.toNat) (v := .ref (A 12 ((U 16 x.toNat).toNat))) rfl fX1_236 (sC_13 (by show _ < U 43 0; omega)) (congrArg some (show rfA A 12 (U 16 x.toNat) = _ from rfA_1 n1)) ?_
        refine t_eq (st' := [rfA A 12 (U 16 x.toNat), .ref (A 11 w.toNat)]) rfl (by rw [rfA_1 (by omega)] <;> rfl) ?_
        refine t_pu5 X (x := U 16 x.toNat) rfl fX1_89 (by show _ < U 41 0; omega) (show ¬ (11 : Nat) = 9 by decide) (fun _ h => nomatch h) ?_
        refine t_run X 1 (pc1 := 153) (ls1 := [_, _, _, _, _]) (st1 := [_]) rfl ?_
        refine t_getA X (A := A) (11, w.toNat) (a := A 11 w.toNat) (v := .int (iI ((w.toNat : Nat) : Int))) rfl rfl fX1_170 (sC_11 (by show _ < U 41 0; omega)) rfl ?_
        exact t_iret X hQ rfl rfl (by omega) (by omega) ⟨⟨by rw [uAsk, hw, if_neg nf, if_neg (by omega), show ((w.toNat : Nat) : Int) = w by omega], rfl, by rw [uAsk, hw, if_neg nf, if_neg (by omega)]⟩, by omega⟩
set_option maxHeartbeats 1000000 in
theorem tc_wagonU (l : Launch) (EV : gEV) {A : gAd} {U : gV} {y t : Int} (hy : inR y) (ht : inR t) (hev : U 33 0 < 64) (hI : uI U) : TC l yX1_wagon cX1_wagon 5 (some .int) 12 20 4000 EV tSys [.ref (A 10 0), .int (iI y), .int (iI t)] A U [] (fun w A9 U9 L9 => (w = some (.int (iI (U 41 0))) ∧ A9 10 0 = A 10 0 ∧ U9 = uWag U (5 * y + t)) ∧ isTrk y t ∧ U 2 0 < 30 ∧ U 6 (5 * y + t).toNat < 6) (fun E => E = cIAE ∧ ¬ isTrk y t ∨ E = cISE ∧ isTrk y t ∧ ¬ (U 2 0 < 30 ∧ U 6 (5 * y + t).toNat < 6)) := by
  refine t_body tbX1_wagon tkX1_wagon (by decide) (by intro v hv; simp only [List.mem_cons, List.not_mem_nil, or_false] at hv; rcases hv with rfl | rfl | rfl <;> rfl) (Nat.le_of_ble_eq_true rfl) (fun M0 z Q X hl hR hQ hE => ?_)
  subst hl
  have hu := uIs hI
  unfold uS at hu
  refine t_eq (ls' := [some (.ref (A 10 0)), some (.int (iI y)), some (.int (iI t)), none, none]) (st' := []) rfl rfl ?_
  refine t_run X 2 (pc1 := 2) (ls1 := [_, _, _, _, _]) (st1 := [_, _]) rfl ?_
  refine t_callS X [] [] rfl mX1_160 (tc_trackOf z.2.1 EV (y := y) (t := t) (by omega) (by omega)) rfl rfl (fun _ h => h.elim) (fun _ h => by cases h) rfl rfl (Nat.le_of_ble_eq_true rfl) (gFit.of hR (by decide) (Nat.le_of_ble_eq_true rfl) (Nat.le_of_ble_eq_true rfl)) (fun E h => t_out X hQ hE (by omega) (by omega) (Or.inl h)) (fun v9 A9 U9 L9 h9 => ?_)
  obtain ⟨⟨rfl, h7, h8, rfl⟩, l2⟩ := h9
  obtain rfl := h7.symm
  obtain rfl := h8.symm
  refine t_eq (st' := [.int (iI (5 * y + t))]) rfl rfl ?_
  have b6 := uI6 hI (j := 5 * y + t) (by omega) (by omega)
  refine t_run X 2 (pc1 := 7) (ls1 := [_, _, _, _, _]) (st1 := [_]) rfl ?_
  refine t_get X (10, 0) (v := .ref (A 30 1)) rfl fX1_16 sC_10 rfl ?_
  refine t_callV X [] [] rfl mX1_146 (tc_alsize z.2.1 EV (i := 1) (by unfold alL; omega) (by show 0 ≤ (U 2 0); omega)) (fun M h _ => gAL_at (h.2.1 1 (by unfold alL; omega))) rfl rfl (fun _ h => h.elim) (fun _ _ h => h) rfl rfl (Nat.le_of_ble_eq_true rfl) (gFit.of hR (by decide) (Nat.le_of_ble_eq_true rfl) (Nat.le_of_ble_eq_true rfl)) (fun _ h => h.elim) (fun v9 A9 U9 L9 h9 => ?_)
  obtain ⟨rfl, h7, h8, rfl⟩ := h9
  obtain rfl := h7.symm
  obtain rfl := h8.symm
  refine t_eq (st' := [.int (iI (U 2 0))]) rfl rfl ?_
  refine t_run X 1 (pc1 := 15) (ls1 := [_, _, _, _, _]) (st1 := [_, _]) rfl ?_
  refine t_br X (pc1 := 41) (st1 := []) rfl (fun b9 => ?_) (fun b9 => ?_)
  · have c15 : 30 ≤ (U 2 0) := cLe b9 (by omega) (by omega)
    refine t_run X 1 (pc1 := 42) (ls1 := [_, _, _, _, _]) (st1 := [_]) rfl ?_
    refine t_eq (st' := [.int (iI (bI (False)))]) rfl rfl ?_
    refine t_callS X [] [] rfl mX1_154 (tc_allowed z.2.1 EV (False)) rfl rfl (fun _ h => h.elim) (fun _ _ h => h) rfl rfl (Nat.le_of_ble_eq_true rfl) (gFit.of hR (by decide) (Nat.le_of_ble_eq_true rfl) (Nat.le_of_ble_eq_true rfl)) (fun E h => t_out X hQ hE (by omega) (by omega) (Or.inr ⟨h.1, by omega, by omega⟩)) (fun v9 A9 U9 L9 h9 => ?_)
    exact h9.2.elim
  · have c15 : (U 2 0) < 30 := cNe b9 (by omega) (by omega)
    refine t_run X 1 (pc1 := 19) (ls1 := [_, _, _, _, _]) (st1 := [_]) rfl ?_
    refine t_get X (10, 0) (v := .ref (A 30 0)) rfl fX1_10 sC_10 rfl ?_
    refine t_run X 1 (pc1 := 23) (ls1 := [_, _, _, _, _]) (st1 := [_, _]) rfl ?_
    refine t_callV X [] [] rfl mX1_74 (tc_algetN z.2.1 EV (i := 0) (n := 15) (by unfold alL; omega) rfl (by omega) (x := 5 * y + t) (by omega) rfl) (fun M h _ => gAL_at (h.2.1 0 (by unfold alL; omega))) rfl rfl (fun _ h => h.elim) (fun _ _ h => h) rfl rfl (Nat.le_of_ble_eq_true rfl) (gFit.of hR (by decide) (Nat.le_of_ble_eq_true rfl) (Nat.le_of_ble_eq_true rfl)) (fun _ h => h.elim) (fun v9 A9 U9 L9 h9 => ?_)
    obtain ⟨rfl, h7, h8, rfl⟩ := h9
    obtain rfl := h7.symm
    obtain rfl := h8.symm
    refine t_eq (st' := [.ref (A 24 ((5 * y + t).toNat))]) rfl rfl ?_
    refine t_cast X rfl kX1_47_2 (fun M h _ => gLk_at (h.2.2 ((5 * y + t).toNat) (by unfold llL; first | omega | (show _ ∨ _ < U 45 0; omega)))) ?_
    refine t_callV X [] [] rfl mX1_78 (tc_llsizeN z.2.1 EV (i := (5 * y + t).toNat) (by unfold llL; omega) (n := (U 6 (5 * y + t).toNat)) (llN_t (by omega)) (by omega)) (fun M h _ => gLk_at (h.2.2 ((5 * y + t).toNat) (by unfold llL; first | omega | (show _ ∨ _ < U 45 0; omega)))) rfl rfl (fun _ h => h.elim) (fun _ _ h => h) rfl rfl (Nat.le_of_ble_eq_true rfl) (gFit.of hR (by decide) (Nat.le_of_ble_eq_true rfl) (Nat.le_of_ble_eq_true rfl)) (fun _ h => h.elim) (fun v9 A9 U9 L9 h9 => ?_)
    obtain ⟨rfl, h7, h8, rfl⟩ := h9
    obtain rfl := h7.symm
    obtain rfl := h8.symm
    refine t_eq (st' := [.int (iI (U 6 (5 * y + t).toNat))]) rfl rfl ?_
    refine t_run X 1 (pc1 := 34) (ls1 := [_, _, _, _, _]) (st1 := [_, _]) rfl ?_
    refine t_br X (pc1 := 41) (st1 := []) rfl (fun b9 => ?_) (fun b9 => ?_)
    · have c34 : 6 ≤ (U 6 (5 * y + t).toNat) := cLe b9 (by omega) (by omega)
      refine t_run X 1 (pc1 := 42) (ls1 := [_, _, _, _, _]) (st1 := [_]) rfl ?_
      refine t_eq (st' := [.int (iI (bI (False)))]) rfl rfl ?_
      refine t_callS X [] [] rfl mX1_154 (tc_allowed z.2.1 EV (False)) rfl rfl (fun _ h => h.elim) (fun _ _ h => h) rfl rfl (Nat.le_of_ble_eq_true rfl) (gFit.of hR (by decide) (Nat.le_of_ble_eq_true rfl) (Nat.le_of_ble_eq_true rfl)) (fun E h => t_out X hQ hE (by omega) (by omega) (Or.inr ⟨h.1, by omega, by omega⟩)) (fun v9 A9 U9 L9 h9 => ?_)
      exact h9.2.elim
    · have c34 : (U 6 (5 * y + t).toNat) < 6 := cNe b9 (by omega) (by omega)
      refine t_run X 2 (pc1 := 42) (ls1 := [_, _, _, _, _]) (st1 := [_]) rfl ?_
      refine t_eq (st' := [.int (iI (bI (True)))]) rfl rfl ?_
      refine t_callS X [] [] rfl mX1_154 (tc_allowed z.2.1 EV (True)) rfl rfl (fun _ h => h.elim) (fun _ _ h => h) rfl rfl (Nat.le_of_ble_eq_true rfl) (gFit.of hR (by decide) (Nat.le_of_ble_eq_true rfl) (Nat.le_of_ble_eq_true rfl)) (fun E h => (h.2 trivial).elim) (fun v9 A9 U9 L9 h9 => ?_)
      obtain ⟨⟨rfl, h7, h8, rfl⟩, -⟩ := h9
      obtain rfl := h7.symm
      obtain rfl := h8.symm
      refine t_eq (st' := []) rfl rfl ?_
      refine t_new X (11, (U 41 0).toNat) rfl nX1_69 (rc hR (Nat.le_of_ble_eq_true rfl)) (rs hR (Nat.le_of_ble_eq_true rfl)) (fun q1 => ?_)
      refine t_L (L' := [(q1, (11, (U 41 0).toNat), .inr (7, [.int (iI 0), .int (iI 0), .int (iI 0), .null]))]) rfl ?_
      refine t_run X 2 (pc1 := 50) (ls1 := [_, _, _, _, _]) (st1 := [_, _, _]) rfl ?_
      refine t_get X (10, 0) (v := .ref (A 30 1)) rfl fX1_16 sC_10 rfl ?_
      refine t_callV X [] [0] rfl mX1_146 (tc_alsize z.2.1 EV (i := 1) (by unfold alL; omega) (by show 0 ≤ (U 2 0); omega)) (fun M h _ => gAL_at (h.2.1 1 (by unfold alL; omega))) rfl rfl (fun _ h => h.elim) (fun _ _ h => h) rfl rfl (Nat.le_of_ble_eq_true rfl) (gFit.of hR (by decide) (Nat.le_of_ble_eq_true rfl) (Nat.le_of_ble_eq_true rfl)) (fun _ h => h.elim) (fun v9 A9 U9 L9 h9 => ?_)
      obtain ⟨rfl, h7, h8, rfl⟩ := h9
      obtain rfl := h7.symm
      obtain rfl := h8.symm
      refine t_eq (st' := [.int (iI (U 2 0)), .ref q1, .ref q1]) rfl rfl ?_
      refine t_L (L' := [(q1, (11, (U 41 0).toNat), .inr (7, [.int (iI 0), .int (iI 0), .int (iI 0), .null]))]) rfl ?_
      refine t_run X 1 (pc1 := 57) (ls1 := [_, _, _, _, _]) (st1 := [_, _, _, _]) rfl ?_
      refine t_eq (st' := [.int (iI (5 * y + t)), .int (iI (U 41 0)), .ref q1, .ref q1]) rfl (by rw [show U 2 0 = U 41 0 by omega]) ?_
      refine t_callI X [0] [] rfl mX1_163 (TC.ofJ (jc_wagon_init z.2.1 EV (a := q1) (t := (11, (U 41 0).toNat)) (x := U 41 0) (y := 5 * y + t)) (fun _ _ _ => trivial) (fun t9 h => h ▸ tDead_c (by decide) (if_neg (by show ¬ ((U 41 0).toNat : Int) < U 41 0; omega)))) rfl rfl (fun _ h => by rw [h]; exact Nat.ne_of_beq_eq_false rfl) (fun _ h => by cases h) rfl rfl (Nat.le_of_ble_eq_true rfl) (gFit.of hR (by decide) (Nat.le_of_ble_eq_true rfl) (Nat.le_of_ble_eq_true rfl)) (fun _ h => h.elim) (fun v9 A9 U9 L9 h9 => ?_)
      obtain ⟨⟨rfl, rfl⟩, h7, h8⟩ := h9
      obtain rfl := h7.symm
      obtain rfl := h8.symm
      refine t_eq (st' := [.ref q1]) rfl rfl ?_
      refine t_L (L' := [(q1, (11, (U 41 0).toNat), .inr (7, [.int (iI (U 41 0)), .int (iI (5 * y + t)), .int (iI (-1)), .null]))]) rfl ?_
      refine t_run X 1 (pc1 := 62) (ls1 := [_, _, _, _, _]) (st1 := []) rfl ?_
      refine t_take (A' := (aS A 11 (U 41 0).toNat q1)) (U' := (uW U (5 * y + t))) (L' := []) (fun M hD hL => ⟨hD.newW (by omega) (hL.at (i := 0) rfl) (by omega) (fun b j hb hj => by have h9 : 0 ≤ U 24 (30 * (b : Int) + (j : Int)).toNat ∧ U 24 (30 * (b : Int) + (j : Int)).toNat < U 2 0 := uI24 hI (a := (b : Int)) (k := (j : Int)) (by omega) (by omega) (by omega) hj; rw [show (30 * (b : Int) + (j : Int)).toNat = 30 * b + j by omega] at h9; omega) (fun a j ha hj => by have h9 : 0 ≤ U 7 (6 * (a : Int) + (j : Int)).toNat ∧ U 7 (6 * (a : Int) + (j : Int)).toNat < U 2 0 := uI7 hI (a := (a : Int)) (k := (j : Int)) (by omega) (by omega) (by omega) hj; rw [show (6 * (a : Int) + (j : Int)).toNat = 6 * a + j by omega] at h9; omega) (fun r j hr hj => by have h9 : 0 ≤ U 29 (6 * (r : Int) + (j : Int)).toNat ∧ U 29 (6 * (r : Int) + (j : Int)).toNat < U 2 0 := uI29 hI (a := (r : Int)) (k := (j : Int)) (by omega) (by omega) (by omega) hj; rw [show (6 * (r : Int) + (j : Int)).toNat = 6 * r + j by omega] at h9; omega), fun x hx => nomatch hx⟩) ?_
      have eA : (aS A 11 (U 41 0).toNat q1) 11 (U 41 0).toNat = q1 := aS_s
      have e41 : (uW U (5 * y + t)) 41 0 = U 41 0 + 1 := by show vS _ 41 0 (U 41 0 + 1) 41 0 = _; rw [vS_s]
      refine t_run X 1 (pc1 := 63) (ls1 := [_, _, _, _, _]) (st1 := [_]) rfl ?_
      refine t_get X (10, 0) (v := .ref ((aS A 11 (U 41 0).toNat q1) 30 1)) rfl fX1_16 sC_10 rfl ?_
      refine t_run X 1 (pc1 := 68) (ls1 := [_, _, _, _, _]) (st1 := [_, _]) rfl ?_
      refine t_callV X [] [] rfl mX1_50 (tc_add1 z.2.1 EV (A := (aS A 11 (U 41 0).toNat q1)) (U := (uW U (5 * y + t))) (by show 0 ≤ U 2 0 ∧ U 2 0 ≤ 72; omega) (by show U 2 0 < _; omega) (by show (aS A 11 (U 41 0).toNat q1) 11 (U 2 0).toNat = _; rw [show U 2 0 = U 41 0 by omega]; exact eA)) (fun M h _ => gAL_at (h.2.1 1 (by unfold alL; omega))) rfl rfl (fun t h => by rcases h with h | ⟨h, -⟩; (rw [h]; exact Nat.ne_of_beq_eq_false rfl); show ¬ t.1 = 9; omega) (fun _ h => by cases h) rfl rfl (Nat.le_of_ble_eq_true rfl) (gFit.of hR (by decide) (Nat.le_of_ble_eq_true rfl) (Nat.le_of_ble_eq_true rfl)) (fun _ h => h.elim) (fun v9 A9 U9 L9 h9 => ?_)
      obtain ⟨rfl, h7, h8, rfl⟩ := h9
      subst h7
      subst h8
      refine t_eq (st' := [.int (iI 1)]) rfl rfl ?_
      refine t_run X 2 (pc1 := 73) (ls1 := [_, _, _, _, _]) (st1 := [_]) rfl ?_
      refine t_get X (10, 0) (v := .ref ((aS A 11 (U 41 0).toNat q1) 30 0)) rfl fX1_10 sC_10 rfl ?_
      refine t_run X 1 (pc1 := 77) (ls1 := [_, _, _, _, _]) (st1 := [_, _]) rfl ?_
      refine t_callV X [] [] rfl mX1_74 (tc_algetN z.2.1 EV (i := 0) (n := 15) (by unfold alL; omega) rfl (by omega) (x := 5 * y + t) (by omega) rfl) (fun M h _ => gAL_at (h.2.1 0 (by unfold alL; omega))) rfl rfl (fun _ h => h.elim) (fun _ _ h => h) rfl rfl (Nat.le_of_ble_eq_true rfl) (gFit.of hR (by decide) (Nat.le_of_ble_eq_true rfl) (Nat.le_of_ble_eq_true rfl)) (fun _ h => h.elim) (fun v9 A9 U9 L9 h9 => ?_)
      obtain ⟨rfl, h7, h8, rfl⟩ := h9
      obtain rfl := h7.symm
      obtain rfl := h8.symm
      refine t_eq (st' := [.ref ((aS A 11 (U 41 0).toNat q1) 24 ((5 * y + t).toNat))]) rfl rfl ?_
      refine t_cast X rfl kX1_47_2 (fun M h _ => gLk_at (h.2.2 ((5 * y + t).toNat) (by unfold llL; first | omega | (show _ ∨ _ < U 45 0; omega)))) ?_
      refine t_run X 1 (pc1 := 85) (ls1 := [_, _, _, _, _]) (st1 := [_, _]) rfl ?_
      refine t_callV X [] [] rfl mX1_164 (tc_put z.2.1 EV (A := (aS A 11 (U 41 0).toNat q1)) (U := (vS (uW U (5 * y + t)) 2 0 ((uW U (5 * y + t)) 2 0 + 1))) (p := 5 * y + t) (w := U 41 0) (by omega) (by show 0 ≤ U 6 _ ∧ U 6 _ < 6; omega) eA) (fun M h _ => gLk_at (h.2.2 _ (by unfold llL; omega))) rfl rfl (fun t h => by rcases h with h | ⟨h, -⟩; (rw [h]; exact Nat.ne_of_beq_eq_false rfl); show ¬ t.1 = 9; omega) (fun _ h => by cases h) rfl rfl (Nat.le_of_ble_eq_true rfl) (gFit.of hR (by decide) (Nat.le_of_ble_eq_true rfl) (Nat.le_of_ble_eq_true rfl)) (fun _ h => h.elim) (fun v9 A9 U9 L9 h9 => ?_)
      obtain ⟨rfl, h7, h8, rfl⟩ := h9
      subst h7
      subst h8
      have g46 : (uPut (vS (uW U (5 * y + t)) 2 0 ((uW U (5 * y + t)) 2 0 + 1)) (5 * y + t) (U 41 0)) 46 0 = U 46 0 := rfl
      have g33 : (uPut (vS (uW U (5 * y + t)) 2 0 ((uW U (5 * y + t)) 2 0 + 1)) (5 * y + t) (U 41 0)) 33 0 = U 33 0 := rfl
      refine t_eq (st' := []) rfl rfl ?_
      refine t_run X 1 (pc1 := 89) (ls1 := [_, _, _, _, _]) (st1 := [_]) rfl ?_
      refine t_get X (10, 0) (v := .ref ((aS A 11 (U 41 0).toNat q1) 30 5)) rfl fX1_44 sC_10 rfl ?_
      refine t_new X (16, (U 46 0).toNat) rfl nX1_168 (rc hR (Nat.le_of_ble_eq_true rfl)) (rs hR (Nat.le_of_ble_eq_true rfl)) (fun q2 => ?_)
      refine t_L (L' := [(q2, (16, (U 46 0).toNat), .inr (9, [.int (iI 0), .int (iI 0)]))]) rfl ?_
      refine t_run X 2 (pc1 := 98) (ls1 := [_, _, _, _, _]) (st1 := [_, _, _, _]) rfl ?_
      refine t_eq (st' := [.ref ((aS A 11 (U 41 0).toNat q1) 11 ((U 41 0).toNat)), .ref q2, .ref q2, .ref ((aS A 11 (U 41 0).toNat q1) 30 5)]) rfl (by rw [eA]) ?_
      refine t_get X (11, (U 41 0).toNat) (v := .int (iI (U 41 0))) rfl fX1_170 (sC_11 (by show _ < uW U (5 * y + t) 41 0; omega)) (by show some (Value.int (iI (((U 41 0).toNat : Nat) : Int))) = _; rw [show (((U 41 0).toNat : Nat) : Int) = U 41 0 by omega]) ?_
      refine t_run X 1 (pc1 := 102) (ls1 := [_, _, _, _, _]) (st1 := [_, _, _, _, _]) rfl ?_
      refine t_callI X [0] [] rfl mX1_173 (TC.ofJ (jc_placed_init z.2.1 EV (a := q2) (t := (16, (U 46 0).toNat)) (x := (U 41 0)) (y := (5 * y + t))) (fun _ _ _ => trivial) (fun t9 h => h ▸ tDead_c (by decide) (if_neg (by show ¬ ((U 46 0).toNat : Int) < U 46 0; omega)))) rfl rfl (fun _ h => by rw [h]; exact Nat.ne_of_beq_eq_false rfl) (fun _ h => by cases h) rfl rfl (Nat.le_of_ble_eq_true rfl) (gFit.of hR (by decide) (Nat.le_of_ble_eq_true rfl) (Nat.le_of_ble_eq_true rfl)) (fun _ h => h.elim) (fun v9 A9 U9 L9 h9 => ?_)
      obtain ⟨⟨rfl, rfl⟩, h7, h8⟩ := h9
      subst h7
      subst h8
      refine t_eq (st' := [.ref q2, .ref ((aS A 11 (U 41 0).toNat q1) 30 5)]) rfl rfl ?_
      refine t_L (L' := [(q2, (16, (U 46 0).toNat), .inr (9, [.int (iI (U 41 0)), .int (iI (5 * y + t))]))]) rfl ?_
      refine t_take (A' := (aS (aS A 11 (U 41 0).toNat q1) 16 (U 46 0).toNat q2)) (U' := (uEv (uPut (vS (uW U (5 * y + t)) 2 0 ((uW U (5 * y + t)) 2 0 + 1)) (5 * y + t) (U 41 0)) 0 (U 41 0) (5 * y + t) 0)) (L' := []) (fun M hD hL => ⟨hD.newE (k := 0) (x := U 41 0) (y := 5 * y + t) (w := 0) (by omega) (by omega) (hL.at (i := 0) rfl), fun x hx => nomatch hx⟩) ?_
      have e46 : (uEv (uPut (vS (uW U (5 * y + t)) 2 0 ((uW U (5 * y + t)) 2 0 + 1)) (5 * y + t) (U 41 0)) 0 (U 41 0) (5 * y + t) 0) 46 0 = U 46 0 + 1 := by show vS _ 46 0 ((uPut (vS (uW U (5 * y + t)) 2 0 ((uW U (5 * y + t)) 2 0 + 1)) (5 * y + t) (U 41 0)) 46 0 + 1) 46 0 = _; rw [vS_s]; omega
      have e33 : (uEv (uPut (vS (uW U (5 * y + t)) 2 0 ((uW U (5 * y + t)) 2 0 + 1)) (5 * y + t) (U 41 0)) 0 (U 41 0) (5 * y + t) 0) 33 0 = U 46 0 := by show (uPut (vS (uW U (5 * y + t)) 2 0 ((uW U (5 * y + t)) 2 0 + 1)) (5 * y + t) (U 41 0)) 33 0 = _; omega
      refine t_callV X [] [] rfl mX1_50 (tc_add5 z.2.1 EV (A := (aS (aS A 11 (U 41 0).toNat q1) 16 (U 46 0).toNat q2)) (U := (uEv (uPut (vS (uW U (5 * y + t)) 2 0 ((uW U (5 * y + t)) 2 0 + 1)) (5 * y + t) (U 41 0)) 0 (U 41 0) (5 * y + t) 0)) (by show 0 ≤ (uEv (uPut (vS (uW U (5 * y + t)) 2 0 ((uW U (5 * y + t)) 2 0 + 1)) (5 * y + t) (U 41 0)) 0 (U 41 0) (5 * y + t) 0) 33 0 ∧ (uEv (uPut (vS (uW U (5 * y + t)) 2 0 ((uW U (5 * y + t)) 2 0 + 1)) (5 * y + t) (U 41 0)) 0 (U 41 0) (5 * y + t) 0) 33 0 ≤ 72; omega) (by omega) (by rw [e33]; exact aS_s)) (fun M h _ => gAL_at (h.2.1 5 (by unfold alL; omega))) rfl rfl (fun t h => by rcases h with h | ⟨h, -⟩; (rw [h]; exact Nat.ne_of_beq_eq_false rfl); show ¬ t.1 = 9; omega) (fun _ h => by cases h) rfl rfl (Nat.le_of_ble_eq_true rfl) (gFit.of hR (by decide) (Nat.le_of_ble_eq_true rfl) (Nat.le_of_ble_eq_true rfl)) (fun _ h => h.elim) (fun v9 A9 U9 L9 h9 => ?_)
      obtain ⟨rfl, h7, h8, rfl⟩ := h9
      subst h7
      subst h8
      refine t_eq (st' := [.int (iI 1)]) rfl rfl ?_
      refine t_run X 2 (pc1 := 111) (ls1 := [_, _, _, _, _]) (st1 := [_]) rfl ?_
      refine t_eq (st' := [.ref ((aS (aS A 11 (U 41 0).toNat q1) 16 (U 46 0).toNat q2) 11 ((U 41 0).toNat))]) rfl (by rw [show (aS (aS A 11 (U 41 0).toNat q1) 16 (U 46 0).toNat q2) 11 (U 41 0).toNat = q1 from eA]) ?_
      refine t_get X (11, (U 41 0).toNat) (v := .int (iI (U 41 0))) rfl fX1_170 (sC_11 (by show _ < uW U (5 * y + t) 41 0; omega)) (by show some (Value.int (iI (((U 41 0).toNat : Nat) : Int))) = _; rw [show (((U 41 0).toNat : Nat) : Int) = U 41 0 by omega]) ?_
      exact t_iret X hQ rfl rfl (by omega) (by omega) ⟨⟨rfl, rfl, rfl⟩, by omega⟩
