/-! THE SYSTEM's constructors, over local cells -/
set_option maxHeartbeats 1000000 in
theorem jc_wagon_init (l : Launch) (EV : gEV) {a : Nat} {t : gTag} {x y : Int} {e0 e1 e2 e3 : Value} : JC l yX5_init cX5_init 3 none 2 0 0 EV kT (tO t) [.ref a, .int (iI x), .int (iI y)] [(a, t, .inr (7, [e0, e1, e2, e3]))] (jP none [(a, t, .inr (7, [.int (iI x), .int (iI y), .int (iI (-1)), e3]))]) := by
  refine l_body tbX5_init tkX5_init (by decide) (by intro v hv; simp only [List.mem_cons, List.not_mem_nil, or_false] at hv; rcases hv with rfl | rfl | rfl <;> rfl) (Nat.le_of_ble_eq_true rfl) (fun M0 z Q X hl hR hQ => ?_)
  subst hl
  refine l_eq (ls' := [some (.ref a), some (.int (iI x)), some (.int (iI y))]) (st' := []) rfl rfl ?_
  refine l_run X 1 (pc1 := 1) (ls1 := [_, _, _]) (st1 := [_]) rfl ?_
  refine l_oinit X rfl q1315 ⟨by rw [hR]; exact Nat.le_of_ble_eq_true rfl, by rw [hR]; exact Nat.le_of_ble_eq_true rfl⟩ (Nat.le_of_ble_eq_true rfl) ?_
  refine l_run X 2 (pc1 := 6) (ls1 := [_, _, _]) (st1 := [_, _]) rfl ?_
  refine l_put X gKt 0 rfl fX5_9 rfl (gDb_s rfl) (rfl) rfl rfl (Nat.le_of_ble_eq_true rfl) (L' := [(a, t, .inr (7, [e0, e1, .int (iI (-1)), e3]))]) rfl ?_
  refine l_run X 2 (pc1 := 11) (ls1 := [_, _, _]) (st1 := [_, _]) rfl ?_
  refine l_putF X gKt 0 rfl rfl fX5_15 rfl (gDb_s rfl) (rfl) rfl rfl (Nat.le_of_ble_eq_true rfl) (L' := [(a, t, .inr (7, [.int (iI x), e1, .int (iI (-1)), e3]))]) rfl ?_
  refine l_run X 2 (pc1 := 16) (ls1 := [_, _, _]) (st1 := [_, _]) rfl ?_
  refine l_put X gKt 0 rfl fX5_18 rfl (gDb_s rfl) (rfl) rfl rfl (Nat.le_of_ble_eq_true rfl) (L' := [(a, t, .inr (7, [.int (iI x), .int (iI y), .int (iI (-1)), e3]))]) rfl ?_
  exact l_vret X hQ rfl rfl (Nat.le_of_ble_eq_true rfl) (Nat.le_of_ble_eq_true rfl) ⟨rfl, rfl⟩
set_option maxHeartbeats 1000000 in
theorem jc_placed_init (l : Launch) (EV : gEV) {a : Nat} {t : gTag} {x y : Int} {e0 e1 : Value} : JC l yX6_init cX6_init 3 none 2 0 0 EV kT (tO t) [.ref a, .int (iI x), .int (iI y)] [(a, t, .inr (9, [e0, e1]))] (jP none [(a, t, .inr (9, [.int (iI x), .int (iI y)]))]) := by
  refine l_body tbX6_init tkX6_init (by decide) (by intro v hv; simp only [List.mem_cons, List.not_mem_nil, or_false] at hv; rcases hv with rfl | rfl | rfl <;> rfl) (Nat.le_of_ble_eq_true rfl) (fun M0 z Q X hl hR hQ => ?_)
  subst hl
  refine l_eq (ls' := [some (.ref a), some (.int (iI x)), some (.int (iI y))]) (st' := []) rfl rfl ?_
  refine l_run X 1 (pc1 := 1) (ls1 := [_, _, _]) (st1 := [_]) rfl ?_
  refine l_oinit X rfl q1367 ⟨by rw [hR]; exact Nat.le_of_ble_eq_true rfl, by rw [hR]; exact Nat.le_of_ble_eq_true rfl⟩ (Nat.le_of_ble_eq_true rfl) ?_
  refine l_run X 2 (pc1 := 6) (ls1 := [_, _, _]) (st1 := [_, _]) rfl ?_
  refine l_putF X gKt 0 rfl rfl fX6_7 rfl (gDb_s rfl) (rfl) rfl rfl (Nat.le_of_ble_eq_true rfl) (L' := [(a, t, .inr (9, [.int (iI x), e1]))]) rfl ?_
  refine l_run X 2 (pc1 := 11) (ls1 := [_, _, _]) (st1 := [_, _]) rfl ?_
  refine l_putF X gKt 0 rfl rfl fX6_13 rfl (gDb_s rfl) (rfl) rfl rfl (Nat.le_of_ble_eq_true rfl) (L' := [(a, t, .inr (9, [.int (iI x), .int (iI y)]))]) rfl ?_
  exact l_vret X hQ rfl rfl (Nat.le_of_ble_eq_true rfl) (Nat.le_of_ble_eq_true rfl) ⟨rfl, rfl⟩
set_option maxHeartbeats 1000000 in
theorem jc_shunted_init (l : Launch) (EV : gEV) {a : Nat} {t : gTag} {x y w : Int} {e0 e1 e2 : Value} : JC l yX7_init cX7_init 4 none 2 0 0 EV kT (tO t) [.ref a, .int (iI x), .int (iI y), .int (iI w)] [(a, t, .inr (12, [e0, e1, e2]))] (jP none [(a, t, .inr (12, [.int (iI x), .int (iI y), .int (iI w)]))]) := by
  refine l_body tbX7_init tkX7_init (by decide) (by intro v hv; simp only [List.mem_cons, List.not_mem_nil, or_false] at hv; rcases hv with rfl | rfl | rfl | rfl <;> rfl) (Nat.le_of_ble_eq_true rfl) (fun M0 z Q X hl hR hQ => ?_)
  subst hl
  refine l_eq (ls' := [some (.ref a), some (.int (iI x)), some (.int (iI y)), some (.int (iI w))]) (st' := []) rfl rfl ?_
  refine l_run X 1 (pc1 := 1) (ls1 := [_, _, _, _]) (st1 := [_]) rfl ?_
  refine l_oinit X rfl q1660 ⟨by rw [hR]; exact Nat.le_of_ble_eq_true rfl, by rw [hR]; exact Nat.le_of_ble_eq_true rfl⟩ (Nat.le_of_ble_eq_true rfl) ?_
  refine l_run X 2 (pc1 := 6) (ls1 := [_, _, _, _]) (st1 := [_, _]) rfl ?_
  refine l_putF X gKt 0 rfl rfl fX7_7 rfl (gDb_s rfl) (rfl) rfl rfl (Nat.le_of_ble_eq_true rfl) (L' := [(a, t, .inr (12, [.int (iI x), e1, e2]))]) rfl ?_
  refine l_run X 2 (pc1 := 11) (ls1 := [_, _, _, _]) (st1 := [_, _]) rfl ?_
  refine l_putF X gKt 0 rfl rfl fX7_13 rfl (gDb_s rfl) (rfl) rfl rfl (Nat.le_of_ble_eq_true rfl) (L' := [(a, t, .inr (12, [.int (iI x), .int (iI y), e2]))]) rfl ?_
  refine l_run X 2 (pc1 := 16) (ls1 := [_, _, _, _]) (st1 := [_, _]) rfl ?_
  refine l_putF X gKt 0 rfl rfl fX7_16 rfl (gDb_s rfl) (rfl) rfl rfl (Nat.le_of_ble_eq_true rfl) (L' := [(a, t, .inr (12, [.int (iI x), .int (iI y), .int (iI w)]))]) rfl ?_
  exact l_vret X hQ rfl rfl (Nat.le_of_ble_eq_true rfl) (Nat.le_of_ble_eq_true rfl) ⟨rfl, rfl⟩
set_option maxHeartbeats 1000000 in
theorem jc_train_init (l : Launch) (EV : gEV) {a : Nat} {t : gTag} {b : Nat} {y : Int} {e0 e1 e2 : Value} : JC l yX12_init cX12_init 3 none 2 0 0 EV kT (tO t) [.ref a, .ref b, .int (iI y)] [(a, t, .inr (18, [e0, e1, e2]))] (jP none [(a, t, .inr (18, [.ref b, .int (iI y), e2]))]) := by
  refine l_body tbX12_init tkX12_init (by decide) (by intro v hv; simp only [List.mem_cons, List.not_mem_nil, or_false] at hv; rcases hv with rfl | rfl | rfl <;> rfl) (Nat.le_of_ble_eq_true rfl) (fun M0 z Q X hl hR hQ => ?_)
  subst hl
  refine l_eq (ls' := [some (.ref a), some (.ref b), some (.int (iI y))]) (st' := []) rfl rfl ?_
  refine l_run X 1 (pc1 := 1) (ls1 := [_, _, _]) (st1 := [_]) rfl ?_
  refine l_oinit X rfl q2288 ⟨by rw [hR]; exact Nat.le_of_ble_eq_true rfl, by rw [hR]; exact Nat.le_of_ble_eq_true rfl⟩ (Nat.le_of_ble_eq_true rfl) ?_
  refine l_run X 2 (pc1 := 6) (ls1 := [_, _, _]) (st1 := [_, _]) rfl ?_
  refine l_putF X gKt 0 rfl rfl fX12_7 rfl (gDb_s rfl) (rfl) rfl rfl (Nat.le_of_ble_eq_true rfl) (L' := [(a, t, .inr (18, [.ref b, e1, e2]))]) rfl ?_
  refine l_run X 2 (pc1 := 11) (ls1 := [_, _, _]) (st1 := [_, _]) rfl ?_
  refine l_putF X gKt 0 rfl rfl fX12_13 rfl (gDb_s rfl) (rfl) rfl rfl (Nat.le_of_ble_eq_true rfl) (L' := [(a, t, .inr (18, [.ref b, .int (iI y), e2]))]) rfl ?_
  exact l_vret X hQ rfl rfl (Nat.le_of_ble_eq_true rfl) (Nat.le_of_ble_eq_true rfl) ⟨rfl, rfl⟩
set_option maxHeartbeats 1000000 in
theorem jc_departed_init (l : Launch) (EV : gEV) {a : Nat} {t : gTag} {x : Int} {e0 : Value} : JC l yX13_init cX13_init 2 none 2 0 0 EV kT (tO t) [.ref a, .int (iI x)] [(a, t, .inr (19, [e0]))] (jP none [(a, t, .inr (19, [.int (iI x)]))]) := by
  refine l_body tbX13_init tkX13_init (by decide) (by intro v hv; simp only [List.mem_cons, List.not_mem_nil, or_false] at hv; rcases hv with rfl | rfl <;> rfl) (Nat.le_of_ble_eq_true rfl) (fun M0 z Q X hl hR hQ => ?_)
  subst hl
  refine l_eq (ls' := [some (.ref a), some (.int (iI x))]) (st' := []) rfl rfl ?_
  refine l_run X 1 (pc1 := 1) (ls1 := [_, _]) (st1 := [_]) rfl ?_
  refine l_oinit X rfl q2310 ⟨by rw [hR]; exact Nat.le_of_ble_eq_true rfl, by rw [hR]; exact Nat.le_of_ble_eq_true rfl⟩ (Nat.le_of_ble_eq_true rfl) ?_
  refine l_run X 2 (pc1 := 6) (ls1 := [_, _]) (st1 := [_, _]) rfl ?_
  refine l_putF X gKt 0 rfl rfl fX13_7 rfl (gDb_s rfl) (rfl) rfl rfl (Nat.le_of_ble_eq_true rfl) (L' := [(a, t, .inr (19, [.int (iI x)]))]) rfl ?_
  exact l_vret X hQ rfl rfl (Nat.le_of_ble_eq_true rfl) (Nat.le_of_ble_eq_true rfl) ⟨rfl, rfl⟩
set_option maxHeartbeats 1000000 in
theorem jc_arrived_init (l : Launch) (EV : gEV) {a : Nat} {t : gTag} {x y : Int} {e0 e1 : Value} : JC l yX14_init cX14_init 3 none 2 0 0 EV kT (tO t) [.ref a, .int (iI x), .int (iI y)] [(a, t, .inr (20, [e0, e1]))] (jP none [(a, t, .inr (20, [.int (iI x), .int (iI y)]))]) := by
  refine l_body tbX14_init tkX14_init (by decide) (by intro v hv; simp only [List.mem_cons, List.not_mem_nil, or_false] at hv; rcases hv with rfl | rfl | rfl <;> rfl) (Nat.le_of_ble_eq_true rfl) (fun M0 z Q X hl hR hQ => ?_)
  subst hl
  refine l_eq (ls' := [some (.ref a), some (.int (iI x)), some (.int (iI y))]) (st' := []) rfl rfl ?_
  refine l_run X 1 (pc1 := 1) (ls1 := [_, _, _]) (st1 := [_]) rfl ?_
  refine l_oinit X rfl q2330 ⟨by rw [hR]; exact Nat.le_of_ble_eq_true rfl, by rw [hR]; exact Nat.le_of_ble_eq_true rfl⟩ (Nat.le_of_ble_eq_true rfl) ?_
  refine l_run X 2 (pc1 := 6) (ls1 := [_, _, _]) (st1 := [_, _]) rfl ?_
  refine l_putF X gKt 0 rfl rfl fX14_7 rfl (gDb_s rfl) (rfl) rfl rfl (Nat.le_of_ble_eq_true rfl) (L' := [(a, t, .inr (20, [.int (iI x), e1]))]) rfl ?_
  refine l_run X 2 (pc1 := 11) (ls1 := [_, _, _]) (st1 := [_, _]) rfl ?_
  refine l_putF X gKt 0 rfl rfl fX14_13 rfl (gDb_s rfl) (rfl) rfl rfl (Nat.le_of_ble_eq_true rfl) (L' := [(a, t, .inr (20, [.int (iI x), .int (iI y)]))]) rfl ?_
  exact l_vret X hQ rfl rfl (Nat.le_of_ble_eq_true rfl) (Nat.le_of_ble_eq_true rfl) ⟨rfl, rfl⟩
set_option maxHeartbeats 1000000 in
theorem jc_trunk_init (l : Launch) (EV : gEV) {a : Nat} {t : gTag}  {e0 e1 : Value} : JC l yX3_init cX3_init 1 none 2 0 0 EV kT (tO t) [.ref a] [(a, t, .inr (5, [e0, e1]))] (jP none [(a, t, .inr (5, [e0, e1]))]) := by
  refine l_body tbX3_init tkX3_init (by decide) (by intro v hv; simp only [List.mem_cons, List.not_mem_nil, or_false] at hv; rcases hv with rfl <;> rfl) (Nat.le_of_ble_eq_true rfl) (fun M0 z Q X hl hR hQ => ?_)
  subst hl
  refine l_eq (ls' := [some (.ref a)]) (st' := []) rfl rfl ?_
  refine l_run X 1 (pc1 := 1) (ls1 := [_]) (st1 := [_]) rfl ?_
  refine l_oinit X rfl q329 ⟨by rw [hR]; exact Nat.le_of_ble_eq_true rfl, by rw [hR]; exact Nat.le_of_ble_eq_true rfl⟩ (Nat.le_of_ble_eq_true rfl) ?_
  exact l_vret X hQ rfl rfl (Nat.le_of_ble_eq_true rfl) (Nat.le_of_ble_eq_true rfl) ⟨rfl, rfl⟩
set_option maxHeartbeats 1000000 in
theorem jc_booking_init (l : Launch) (EV : gEV) {a : Nat} {t u : gTag} (htu : t ≠ u) {x c y g : Int} {e0 e1 e2 e3 e4 e5 e6 : Value} : JC l yX10_init cX10_init 5 none 4 1 3 EV kT (tO2 t u) [.ref a, .int (iI x), .int (iI c), .int (iI y), .int (iI g)] [(a, t, .inr (16, [e0, e1, e2, e3, e4, e5, e6]))] (fun v9 L9 => ∃ q : Nat, v9 = none ∧ L9 = [(q, u, .inr (1, [.int (iI 0), .ref (EV.2.2.2 0), .int (iI 0)])), (a, t, .inr (16, [.int (iI x), .int (iI c), .int (iI y), .int (iI g), .ref q, .ref (EV.2.2.2 (10 + 0)), e6]))]) := by
  refine l_body tbX10_init tkX10_init (by decide) (by intro v hv; simp only [List.mem_cons, List.not_mem_nil, or_false] at hv; rcases hv with rfl | rfl | rfl | rfl | rfl <;> rfl) (Nat.le_of_ble_eq_true rfl) (fun M0 z Q X hl hR hQ => ?_)
  subst hl
  refine l_eq (ls' := [some (.ref a), some (.int (iI x)), some (.int (iI c)), some (.int (iI y)), some (.int (iI g))]) (st' := []) rfl rfl ?_
  refine l_run X 1 (pc1 := 1) (ls1 := [_, _, _, _, _]) (st1 := [_]) rfl ?_
  refine l_oinit X rfl q1938 ⟨by rw [hR]; exact Nat.le_of_ble_eq_true rfl, by rw [hR]; exact Nat.le_of_ble_eq_true rfl⟩ (Nat.le_of_ble_eq_true rfl) ?_
  refine l_run X 1 (pc1 := 5) (ls1 := [_, _, _, _, _]) (st1 := [_]) rfl ?_
  refine l_new X gKt u rfl nX10_7 (rc hR (Nat.le_of_ble_eq_true rfl)) (rs hR (Nat.le_of_ble_eq_true rfl)) (fun q1 => ?_)
  refine l_L (L' := [(a, t, .inr (16, [e0, e1, e2, e3, e4, e5, e6])), (q1, u, .inr (1, [.int (iI 0), .null, .int (iI 0)]))]) rfl ?_
  refine l_run X 1 (pc1 := 9) (ls1 := [_, _, _, _, _]) (st1 := [_, _, _]) rfl ?_
  refine l_callI X gKt [1] [0] rfl mX10_9 (jc_J2_init z.2.1 EV (a := q1) (t := u)) (fun _ _ _ => trivial) rfl rfl (fun _ h => Or.inr h) (by intro x hx; simp at hx; subst hx; exact htu) rfl rfl (Nat.le_of_ble_eq_true rfl) (gFit.of hR (Nat.le_of_ble_eq_true rfl) (Nat.le_of_ble_eq_true rfl) (Nat.le_of_ble_eq_true rfl)) (fun v9 L9 h9 => ?_)
  obtain ⟨rfl, rfl⟩ := h9
  refine l_eq (st' := [.ref q1, .ref a]) rfl rfl ?_
  refine l_L (L' := [(q1, u, .inr (1, [.int (iI 0), .ref (EV.2.2.2 0), .int (iI 0)])), (a, t, .inr (16, [e0, e1, e2, e3, e4, e5, e6]))]) rfl ?_
  refine l_putF X gKt 1 rfl rfl fX10_10 rfl (by first | exact gDb_s rfl | exact gDp2 htu | exact gDp2 htu.symm) (Or.inl rfl) rfl rfl (Nat.le_of_ble_eq_true rfl) (L' := [(q1, u, .inr (1, [.int (iI 0), .ref (EV.2.2.2 0), .int (iI 0)])), (a, t, .inr (16, [e0, e1, e2, e3, .ref q1, e5, e6]))]) rfl ?_
  refine l_run X 1 (pc1 := 16) (ls1 := [_, _, _, _, _]) (st1 := [_]) rfl ?_
  refine l_gets X rfl (X.stat.2.2.2.2.2.1 0 (by decide)).1 q1941 (Or.inl rfl) ?_
  refine l_put X gKt 1 rfl fX10_22 rfl (by first | exact gDb_s rfl | exact gDp2 htu | exact gDp2 htu.symm) (Or.inl rfl) rfl rfl (Nat.le_of_ble_eq_true rfl) (L' := [(q1, u, .inr (1, [.int (iI 0), .ref (EV.2.2.2 0), .int (iI 0)])), (a, t, .inr (16, [e0, e1, e2, e3, .ref q1, .ref (EV.2.2.2 (10 + 0)), e6]))]) rfl ?_
  refine l_run X 2 (pc1 := 24) (ls1 := [_, _, _, _, _]) (st1 := [_, _]) rfl ?_
  refine l_putF X gKt 1 rfl rfl fX10_25 rfl (by first | exact gDb_s rfl | exact gDp2 htu | exact gDp2 htu.symm) (Or.inl rfl) rfl rfl (Nat.le_of_ble_eq_true rfl) (L' := [(q1, u, .inr (1, [.int (iI 0), .ref (EV.2.2.2 0), .int (iI 0)])), (a, t, .inr (16, [.int (iI x), e1, e2, e3, .ref q1, .ref (EV.2.2.2 (10 + 0)), e6]))]) rfl ?_
  refine l_run X 2 (pc1 := 29) (ls1 := [_, _, _, _, _]) (st1 := [_, _]) rfl ?_
  refine l_putF X gKt 1 rfl rfl fX10_29 rfl (by first | exact gDb_s rfl | exact gDp2 htu | exact gDp2 htu.symm) (Or.inl rfl) rfl rfl (Nat.le_of_ble_eq_true rfl) (L' := [(q1, u, .inr (1, [.int (iI 0), .ref (EV.2.2.2 0), .int (iI 0)])), (a, t, .inr (16, [.int (iI x), .int (iI c), e2, e3, .ref q1, .ref (EV.2.2.2 (10 + 0)), e6]))]) rfl ?_
  refine l_run X 2 (pc1 := 34) (ls1 := [_, _, _, _, _]) (st1 := [_, _]) rfl ?_
  refine l_putF X gKt 1 rfl rfl fX10_32 rfl (by first | exact gDb_s rfl | exact gDp2 htu | exact gDp2 htu.symm) (Or.inl rfl) rfl rfl (Nat.le_of_ble_eq_true rfl) (L' := [(q1, u, .inr (1, [.int (iI 0), .ref (EV.2.2.2 0), .int (iI 0)])), (a, t, .inr (16, [.int (iI x), .int (iI c), .int (iI y), e3, .ref q1, .ref (EV.2.2.2 (10 + 0)), e6]))]) rfl ?_
  refine l_run X 2 (pc1 := 40) (ls1 := [_, _, _, _, _]) (st1 := [_, _]) rfl ?_
  refine l_putF X gKt 1 rfl rfl fX10_35 rfl (by first | exact gDb_s rfl | exact gDp2 htu | exact gDp2 htu.symm) (Or.inl rfl) rfl rfl (Nat.le_of_ble_eq_true rfl) (L' := [(q1, u, .inr (1, [.int (iI 0), .ref (EV.2.2.2 0), .int (iI 0)])), (a, t, .inr (16, [.int (iI x), .int (iI c), .int (iI y), .int (iI g), .ref q1, .ref (EV.2.2.2 (10 + 0)), e6]))]) rfl ?_
  exact l_vret X hQ rfl rfl (Nat.le_of_ble_eq_true rfl) (Nat.le_of_ble_eq_true rfl) ⟨q1, rfl, rfl⟩
