/-! THE SYSTEM's methods walked: at, by a replay -/
set_option maxHeartbeats 1000000 in
theorem tc_atRep (l : Launch) (EV : gEV) {A : gAd} {U : gV} {y t p : Int} (hy : inR y) (ht : inR t) (hp : inR p) (hRP : uRp U) (hag : ∀ i, rp U (U 33 0).toNat 6 i = U 6 i ∧ rp U (U 33 0).toNat 7 i = U 7 i) (hI : uI U) : TC l yX1_atByReplay cX1_atByReplay 6 (some .int) 9 110 700 EV tSys [.ref (A 10 0), .int (iI y), .int (iI t), .int (iI p)] A U [] (fun w A9 U9 L9 => (w = some (.int (iI (U 7 (6 * (5 * y + t) + p).toNat))) ∧ A9 10 0 = A 10 0 ∧ U9 = U) ∧ isTrk y t ∧ 0 ≤ p ∧ p < U 6 (5 * y + t).toNat) (fun E => E = cIAE ∧ ¬ isTrk y t ∨ E = cIOB ∧ isTrk y t ∧ ¬ (0 ≤ p ∧ p < U 6 (5 * y + t).toNat)) := by
  refine t_body tbX1_atByReplay tkX1_atByReplay (by decide) (by intro v hv; simp only [List.mem_cons, List.not_mem_nil, or_false] at hv; rcases hv with rfl | rfl | rfl | rfl <;> rfl) (Nat.le_of_ble_eq_true rfl) (fun M0 z Q X hl hR hQ hE => ?_)
  subst hl
  have hu := uIs hI
  unfold uS at hu
  refine t_eq (ls' := [some (.ref (A 10 0)), some (.int (iI y)), some (.int (iI t)), some (.int (iI p)), none, none]) (st' := []) rfl rfl ?_
  refine t_run X 2 (pc1 := 2) (ls1 := [_, _, _, _, _, _]) (st1 := [_, _]) rfl ?_
  refine t_callS X [] [] rfl mX1_160 (tc_trackOf z.2.1 EV (y := y) (t := t) (by omega) (by omega)) rfl rfl (fun _ h => h.elim) (fun _ h => by cases h) rfl rfl (Nat.le_of_ble_eq_true rfl) (gFit.of hR (by decide) (Nat.le_of_ble_eq_true rfl) (Nat.le_of_ble_eq_true rfl)) (fun E h => t_out X hQ hE (by omega) (by omega) (Or.inl h)) (fun v9 A9 U9 L9 h9 => ?_)
  obtain ⟨⟨rfl, h7, h8, rfl⟩, l2⟩ := h9
  obtain rfl := h7.symm
  obtain rfl := h8.symm
  refine t_eq (st' := [.int (iI (5 * y + t))]) rfl rfl ?_
  have b6 := uI6 hI (j := (5 * y + t)) (by omega) (by omega)
  refine t_run X 1 (pc1 := 7) (ls1 := [_, _, _, _, _, _]) (st1 := []) rfl ?_
  refine t_new X (78, 0) rfl nX1_198 (rc hR (Nat.le_of_ble_eq_true rfl)) (rs hR (Nat.le_of_ble_eq_true rfl)) (fun q1 => ?_)
  refine t_L (L' := [(q1, (78, 0), .inr (13, [.null, .null, .null, .int (iI 0), .null]))]) rfl ?_
  refine t_run X 2 (pc1 := 12) (ls1 := [_, _, _, _, _, _]) (st1 := [_, _, _]) rfl ?_
  refine t_callI X [0] [] rfl mX1_200 (tc_replay z.2.1 EV (q := q1) hRP hI) rfl rfl (fun t9 h => Nat.ne_of_gt (Nat.lt_of_lt_of_le (by decide) h.1)) (fun _ h => nomatch h) rfl rfl (Nat.le_of_ble_eq_true rfl) (gFit.of hR (by decide) (Nat.le_of_ble_eq_true rfl) (Nat.le_of_ble_eq_true rfl)) (fun _ h => h.elim) (fun v9 A9 U9 L9 h9 => ?_)
  obtain ⟨⟨rfl, h7, h8⟩, B, hB9, rfl⟩ := h9
  obtain rfl := h7.symm
  obtain rfl := h8.symm
  subst hB9
  refine t_L (List.append_nil _) ?_
  refine t_eq (st' := [.ref (B 78 0)]) rfl rfl ?_
  refine t_L (L' := (rpL EV A B (rp U (U 33 0).toNat) ((U 25 0).toNat))) rfl ?_
  refine t_run X 3 (pc1 := 20) (ls1 := [_, _, _, _, _, _]) (st1 := [_, _]) rfl ?_
  refine t_mget X (v := .ref (B 81 0)) rfl fX1_203 rp_m0 rfl ?_
  refine t_run X 1 (pc1 := 25) (ls1 := [_, _, _, _, _, _]) (st1 := [_, _, _]) rfl ?_
  refine t_miald X (j := (5 * y + t).toNat) (v := iI (U 6 (5 * y + t).toNat)) rfl rp_m2 (gIx_i (z := (5 * y + t)) (by omega) (by omega)) (by show iI ((rp U (U 33 0).toNat) 6 (5 * y + t).toNat) = _; rw [(hag _).1]) ?_
  refine t_callS X [] (List.range (rpL EV A B (rp U (U 33 0).toNat) ((U 25 0).toNat)).length) rfl mX1_147 (tc_there z.2.1 EV (v := p) (m := (U 6 (5 * y + t).toNat)) (by omega) (by omega)) rfl (fm_all _) (fun _ h => h.elim) (fun _ _ h => h) rfl rfl (Nat.le_of_ble_eq_true rfl) (gFit.of hR (by decide) (Nat.le_of_ble_eq_true rfl) (Nat.le_of_ble_eq_true rfl)) (fun E h => t_out X hQ hE (by omega) (by omega) (Or.inr ⟨h.1, by omega, h.2⟩)) (fun v9 A9 U9 L9 h9 => ?_)
  obtain ⟨⟨rfl, h7, h8, rfl⟩, l26⟩ := h9
  obtain rfl := h7.symm
  obtain rfl := h8.symm
  refine t_eq (st' := []) rfl rfl ?_
  refine t_L (L' := (rpL EV A B (rp U (U 33 0).toNat) ((U 25 0).toNat))) rfl ?_
  refine t_run X 1 (pc1 := 31) (ls1 := [_, _, _, _, _, _]) (st1 := [_]) rfl ?_
  refine t_mget X (v := .ref (B 79 0)) rfl fX1_206 rp_m0 rfl ?_
  refine t_run X 1 (pc1 := 36) (ls1 := [_, _, _, _, _, _]) (st1 := [_, _]) rfl ?_
  refine t_maald X (j := (5 * y + t).toNat) (v := .ref (B 80 (5 * y + t).toNat)) rfl rp_m1 (gIx_i (z := (5 * y + t)) (by omega) (by omega)) (by show va_rf (if (5 * y + t).toNat < 15 then _ else _) = _; rw [if_pos (by omega)]; rfl) ?_
  refine t_run X 1 (pc1 := 38) (ls1 := [_, _, _, _, _, _]) (st1 := [_, _]) rfl ?_
  refine t_miald X (j := p.toNat) (v := iI (U 7 (6 * (5 * y + t) + p).toNat)) rfl (rp_mR (j := (5 * y + t).toNat) (by omega)) (gIx_i (z := p) (by omega) (by omega)) (by show (if p.toNat < 6 then iI ((rp U (U 33 0).toNat) 7 (6 * (5 * y + t).toNat + p.toNat)) else 0) = _; rw [if_pos (by omega), show 6 * (5 * y + t).toNat + p.toNat = (6 * (5 * y + t) + p).toNat by omega, (hag _).2]) ?_
  exact t_iret X hQ rfl rfl (by omega) (by omega) ⟨⟨rfl, rfl, rfl⟩, by omega⟩
