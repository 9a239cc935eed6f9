/-! THE JDK's lists, walked over local pictures: LinkedList -/
def tO3 (t0 t1 t2 : gTag) : gTag → Prop := fun t => t = t0 ∨ t = t1 ∨ t = t2
set_option maxHeartbeats 1000000 in
theorem jc_J7_init (l : Launch) (EV : gEV) {a : Nat} {t : gTag} {v0 v1 v2 v3 : Value} : JC l yJ7_init cJ7_init 1 none 4 0 0 EV kT (tO t) [.ref a] [(a, t, .inr (2, [v0, v1, v2, v3]))] (jP none [(a, t, .inr (2, [.int (iI 0), .int (iI 0), v2, v3]))]) := by
  refine l_body tbJ7_init tkJ7_init (by decide) (by intro v hv; simp only [List.mem_cons, List.not_mem_nil, or_false] at hv; rcases hv with rfl <;> rfl) (Nat.le_of_ble_eq_true rfl) (fun M0 z Q X hl hR hQ => ?_)
  subst hl
  refine l_eq (ls' := [some (.ref a)]) (st' := []) rfl rfl ?_
  refine l_run X 1 (pc1 := 1) (ls1 := [_]) (st1 := [_]) rfl ?_
  refine l_callI X gKt [0] [] rfl mJ7_1 (jc_J6_init z.2.1 EV (a := a) (t := t)) (fun _ _ _ => trivial) rfl rfl (fun _ h => h) (fun _ h => by cases h) rfl rfl (Nat.le_of_ble_eq_true rfl) (gFit.of hR (Nat.le_of_ble_eq_true rfl) (Nat.le_of_ble_eq_true rfl) (Nat.le_of_ble_eq_true rfl)) (fun v9 L9 h9 => ?_)
  obtain ⟨rfl, rfl⟩ := h9
  refine l_eq (st' := []) rfl rfl ?_
  refine l_L (L' := [(a, t, .inr (2, [.int (iI 0), v1, v2, v3]))]) rfl ?_
  refine l_run X 2 (pc1 := 6) (ls1 := [_]) (st1 := [_, _]) rfl ?_
  refine l_put X gKt 0 rfl fJ7_7 rfl (gDb_s rfl) (rfl) rfl rfl (Nat.le_of_ble_eq_true rfl) (L' := [(a, t, .inr (2, [.int (iI 0), .int (iI 0), v2, v3]))]) rfl ?_
  exact l_vret X hQ rfl rfl (Nat.le_of_ble_eq_true rfl) (Nat.le_of_ble_eq_true rfl) ⟨rfl, rfl⟩
set_option maxHeartbeats 1000000 in
theorem jc_J7_size (l : Launch) (EV : gEV) {a : Nat} {t : gTag} {m s0 : Int} {v1 v2 : Value} : JC l yJ7_size cJ7_size 1 (some .int) 1 0 0 EV kT tF [.ref a] [(a, t, .inr (2, [.int (iI m), .int (iI s0), v1, v2]))] (jP (some (.int (iI s0))) [(a, t, .inr (2, [.int (iI m), .int (iI s0), v1, v2]))]) := by
  refine l_body tbJ7_size tkJ7_size (by decide) (by intro v hv; simp only [List.mem_cons, List.not_mem_nil, or_false] at hv; rcases hv with rfl <;> rfl) (Nat.le_of_ble_eq_true rfl) (fun M0 z Q X hl hR hQ => ?_)
  subst hl
  refine l_eq (ls' := [some (.ref a)]) (st' := []) rfl rfl ?_
  refine l_run X 1 (pc1 := 1) (ls1 := [_]) (st1 := [_]) rfl ?_
  refine l_get X 0 rfl fJ7_7 rfl rfl ?_
  exact l_iret X hQ rfl rfl (Nat.le_of_ble_eq_true rfl) (Nat.le_of_ble_eq_true rfl) ⟨rfl, rfl⟩
set_option maxHeartbeats 1000000 in
theorem jc_J7_isEmpty (l : Launch) (EV : gEV) {a : Nat} {t : gTag} {m s0 : Int} (hs : inR s0) {v1 v2 : Value} : JC l yJ0_isEmpty cJ0_isEmpty 1 (some .boolean) 2 0 0 EV kT tF [.ref a] [(a, t, .inr (2, [.int (iI m), .int (iI s0), v1, v2]))] (jP (some (.int (iI (bI (s0 = 0))))) [(a, t, .inr (2, [.int (iI m), .int (iI s0), v1, v2]))]) := by
  refine l_body tbJ0_isEmpty tkJ0_isEmpty (by decide) (by intro v hv; simp only [List.mem_cons, List.not_mem_nil, or_false] at hv; rcases hv with rfl <;> rfl) (Nat.le_of_ble_eq_true rfl) (fun M0 z Q X hl hR hQ => ?_)
  subst hl
  refine l_eq (ls' := [some (.ref a)]) (st' := []) rfl rfl ?_
  refine l_run X 1 (pc1 := 1) (ls1 := [_]) (st1 := [_]) rfl ?_
  refine l_callU X gKt [0] [] 0 rfl mJ0_7_2 (jc_J7_size z.2.1 EV) rfl (fun _ _ _ => trivial) rfl rfl (fun _ h => h.elim) (fun _ _ h => h) rfl rfl (Nat.le_of_ble_eq_true rfl) (gFit.of hR (Nat.le_of_ble_eq_true rfl) (Nat.le_of_ble_eq_true rfl) (Nat.le_of_ble_eq_true rfl)) (fun v9 L9 h9 => ?_)
  obtain ⟨rfl, rfl⟩ := h9
  refine l_eq (st' := [.int (iI s0)]) rfl rfl ?_
  refine l_L (L' := [(a, t, .inr (2, [.int (iI m), .int (iI s0), v1, v2]))]) rfl ?_
  refine l_br X (pc1 := 11) (st1 := []) rfl (fun b9 => ?_) (fun b9 => ?_)
  · have c4 : ¬ s0 = 0 := cNq b9 (by omega) (by omega)
    refine l_run X 1 (pc1 := 12) (ls1 := [_]) (st1 := [_]) rfl ?_
    exact l_zret X hQ rfl rfl rfl (Nat.le_refl _) (Nat.le_refl _) ⟨by rw [bI_0 (by omega)], rfl⟩
  · have c4 : s0 = 0 := cEq b9 (by omega) (by omega)
    refine l_run X 2 (pc1 := 12) (ls1 := [_]) (st1 := [_]) rfl ?_
    exact l_zret X hQ rfl rfl rfl (Nat.le_refl _) (Nat.le_refl _) ⟨by rw [bI_1 (by omega)], rfl⟩
set_option maxHeartbeats 1000000 in
theorem jc_J29_initE (l : Launch) (EV : gEV) {q x : Nat} {w : gTag} {w0 w1 w2 : Value} : JC l yJ29_init cJ29_init 4 none 1 0 0 EV kT (tO w) [.ref q, .null, .ref x, .null] [(q, w, .inr (8, [w0, w1, w2]))] (jP none [(q, w, .inr (8, [.ref x, .null, .null]))]) := by
  refine l_body tbJ29_init tkJ29_init (by decide) (by intro v hv; simp only [List.mem_cons, List.not_mem_nil, or_false] at hv; rcases hv with rfl | rfl | rfl | rfl <;> rfl) (Nat.le_of_ble_eq_true rfl) (fun M0 z Q X hl hR hQ => ?_)
  subst hl
  refine l_eq (ls' := [some (.ref q), some (.null), some (.ref x), some (.null)]) (st' := []) rfl rfl ?_
  refine l_run X 1 (pc1 := 1) (ls1 := [_, _, _, _]) (st1 := [_]) rfl ?_
  refine l_oinit X rfl q1346 ⟨by rw [hR]; exact Nat.le_of_ble_eq_true rfl, by rw [hR]; exact Nat.le_of_ble_eq_true rfl⟩ (Nat.le_of_ble_eq_true rfl) ?_
  refine l_run X 2 (pc1 := 6) (ls1 := [_, _, _, _]) (st1 := [_, _]) rfl ?_
  refine l_put X gKt 0 rfl fJ29_7 rfl (gDb_s rfl) (rfl) rfl rfl (Nat.le_of_ble_eq_true rfl) (L' := [(q, w, .inr (8, [.ref x, w1, w2]))]) rfl ?_
  refine l_run X 2 (pc1 := 11) (ls1 := [_, _, _, _]) (st1 := [_, _]) rfl ?_
  refine l_put X gKt 0 rfl fJ29_13 rfl (gDb_s rfl) (rfl) rfl rfl (Nat.le_of_ble_eq_true rfl) (L' := [(q, w, .inr (8, [.ref x, .null, w2]))]) rfl ?_
  refine l_run X 2 (pc1 := 16) (ls1 := [_, _, _, _]) (st1 := [_, _]) rfl ?_
  refine l_put X gKt 0 rfl fJ29_17 rfl (gDb_s rfl) (rfl) rfl rfl (Nat.le_of_ble_eq_true rfl) (L' := [(q, w, .inr (8, [.ref x, .null, .null]))]) rfl ?_
  exact l_vret X hQ rfl rfl (Nat.le_of_ble_eq_true rfl) (Nat.le_of_ble_eq_true rfl) ⟨rfl, rfl⟩
set_option maxHeartbeats 1000000 in
theorem jc_J29_initN (l : Launch) (EV : gEV) {q x b : Nat} {w : gTag} {w0 w1 w2 : Value} : JC l yJ29_init cJ29_init 4 none 1 0 0 EV kT (tO w) [.ref q, .ref b, .ref x, .null] [(q, w, .inr (8, [w0, w1, w2]))] (jP none [(q, w, .inr (8, [.ref x, .null, .ref b]))]) := by
  refine l_body tbJ29_init tkJ29_init (by decide) (by intro v hv; simp only [List.mem_cons, List.not_mem_nil, or_false] at hv; rcases hv with rfl | rfl | rfl | rfl <;> rfl) (Nat.le_of_ble_eq_true rfl) (fun M0 z Q X hl hR hQ => ?_)
  subst hl
  refine l_eq (ls' := [some (.ref q), some (.ref b), some (.ref x), some (.null)]) (st' := []) rfl rfl ?_
  refine l_run X 1 (pc1 := 1) (ls1 := [_, _, _, _]) (st1 := [_]) rfl ?_
  refine l_oinit X rfl q1346 ⟨by rw [hR]; exact Nat.le_of_ble_eq_true rfl, by rw [hR]; exact Nat.le_of_ble_eq_true rfl⟩ (Nat.le_of_ble_eq_true rfl) ?_
  refine l_run X 2 (pc1 := 6) (ls1 := [_, _, _, _]) (st1 := [_, _]) rfl ?_
  refine l_put X gKt 0 rfl fJ29_7 rfl (gDb_s rfl) (rfl) rfl rfl (Nat.le_of_ble_eq_true rfl) (L' := [(q, w, .inr (8, [.ref x, w1, w2]))]) rfl ?_
  refine l_run X 2 (pc1 := 11) (ls1 := [_, _, _, _]) (st1 := [_, _]) rfl ?_
  refine l_put X gKt 0 rfl fJ29_13 rfl (gDb_s rfl) (rfl) rfl rfl (Nat.le_of_ble_eq_true rfl) (L' := [(q, w, .inr (8, [.ref x, .null, w2]))]) rfl ?_
  refine l_run X 2 (pc1 := 16) (ls1 := [_, _, _, _]) (st1 := [_, _]) rfl ?_
  refine l_put X gKt 0 rfl fJ29_17 rfl (gDb_s rfl) (rfl) rfl rfl (Nat.le_of_ble_eq_true rfl) (L' := [(q, w, .inr (8, [.ref x, .null, .ref b]))]) rfl ?_
  exact l_vret X hQ rfl rfl (Nat.le_of_ble_eq_true rfl) (Nat.le_of_ble_eq_true rfl) ⟨rfl, rfl⟩
set_option maxHeartbeats 1000000 in
theorem jc_linkLastE (l : Launch) (EV : gEV) {a x : Nat} {t w : gTag} (htw : t ≠ w) {m : Int} : JC l yJ7_linkLast cJ7_linkLast 4 none 2 1 3 EV kT (tO2 t w) [.ref a, .ref x] [(a, t, .inr (2, [.int (iI m), .int (iI 0), .null, .null]))] (fun v9 L9 => ∃ q : Nat, v9 = none ∧ L9 = [(q, w, .inr (8, [.ref x, .null, .null])), (a, t, .inr (2, [.int (iI (m + 1)), .int (iI 1), .ref q, .ref q]))]) := by
  refine l_body tbJ7_linkLast tkJ7_linkLast (by decide) (by intro v hv; simp only [List.mem_cons, List.not_mem_nil, or_false] at hv; rcases hv with rfl | rfl <;> rfl) (Nat.le_of_ble_eq_true rfl) (fun M0 z Q X hl hR hQ => ?_)
  subst hl
  refine l_eq (ls' := [some (.ref a), some (.ref x), none, none]) (st' := []) rfl rfl ?_
  refine l_run X 1 (pc1 := 1) (ls1 := [_, _, _, _]) (st1 := [_]) rfl ?_
  refine l_get X 0 rfl fJ7_27 rfl rfl ?_
  refine l_run X 1 (pc1 := 5) (ls1 := [_, _, _, _]) (st1 := []) rfl ?_
  refine l_new X gKt w rfl nJ7_22 (rc hR (Nat.le_of_ble_eq_true rfl)) (rs hR (Nat.le_of_ble_eq_true rfl)) (fun q1 => ?_)
  refine l_L (L' := [(a, t, .inr (2, [.int (iI m), .int (iI 0), .null, .null])), (q1, w, .inr (8, [.null, .null, .null]))]) rfl ?_
  refine l_run X 4 (pc1 := 12) (ls1 := [_, _, _, _]) (st1 := [_, _, _, _, _]) rfl ?_
  refine l_callIW X (gKt) [1] [0] rfl mJ7_24 (jc_J29_initE z.2.1 EV (w := w)) (fun _ _ _ => trivial) rfl rfl (fun _ h => Or.inr h) (fun y hy => by simp at hy; subst hy; exact htw) rfl rfl (Nat.le_of_ble_eq_true rfl) (gFit.of hR (Nat.le_of_ble_eq_true rfl) (Nat.le_of_ble_eq_true rfl) (Nat.le_of_ble_eq_true rfl)) (fun v9 L9 h9 => ?_)
  obtain ⟨rfl, rfl⟩ := h9
  refine l_eq (st' := [.ref q1]) rfl rfl ?_
  refine l_L (L' := [(q1, w, .inr (8, [.ref x, .null, .null])), (a, t, .inr (2, [.int (iI m), .int (iI 0), .null, .null]))]) rfl ?_
  refine l_run X 3 (pc1 := 18) (ls1 := [_, _, _, _]) (st1 := [_, _]) rfl ?_
  refine l_put X gKt 1 rfl fJ7_27 rfl (gDp2 htw.symm) (Or.inl rfl) rfl rfl (Nat.le_of_ble_eq_true rfl) (L' := [(q1, w, .inr (8, [.ref x, .null, .null])), (a, t, .inr (2, [.int (iI m), .int (iI 0), .null, .ref q1]))]) rfl ?_
  refine l_run X 4 (pc1 := 27) (ls1 := [_, _, _, _]) (st1 := [_, _]) rfl ?_
  refine l_put X gKt 1 rfl fJ7_18 rfl (gDp2 htw.symm) (Or.inl rfl) rfl rfl (Nat.le_of_ble_eq_true rfl) (L' := [(q1, w, .inr (8, [.ref x, .null, .null])), (a, t, .inr (2, [.int (iI m), .int (iI 0), .ref q1, .ref q1]))]) rfl ?_
  refine l_run X 3 (pc1 := 40) (ls1 := [_, _, _, _]) (st1 := [_, _]) rfl ?_
  refine l_get X 1 rfl fJ7_7 rfl rfl ?_
  refine l_run X 2 (pc1 := 45) (ls1 := [_, _, _, _]) (st1 := [_, _]) rfl ?_
  refine l_eq (ls' := [some (.ref a), some (.ref x), some (.null), some (.ref q1)]) (st' := [.int (iI (0 + 1)), .ref a]) (by simp only [iI_add, iI_sub, iI_mul, iI_neg]) (by simp only [iI_add, iI_sub, iI_mul, iI_neg]) ?_
  refine l_put X gKt 1 rfl fJ7_7 rfl (gDp2 htw.symm) (Or.inl rfl) rfl rfl (Nat.le_of_ble_eq_true rfl) (L' := [(q1, w, .inr (8, [.ref x, .null, .null])), (a, t, .inr (2, [.int (iI m), .int (iI (0 + 1)), .ref q1, .ref q1]))]) rfl ?_
  refine l_run X 2 (pc1 := 50) (ls1 := [_, _, _, _]) (st1 := [_, _]) rfl ?_
  refine l_get X 1 rfl fJ7_33_2 rfl rfl ?_
  refine l_run X 2 (pc1 := 55) (ls1 := [_, _, _, _]) (st1 := [_, _]) rfl ?_
  refine l_eq (ls' := [some (.ref a), some (.ref x), some (.null), some (.ref q1)]) (st' := [.int (iI (m + 1)), .ref a]) (by simp only [iI_add, iI_sub, iI_mul, iI_neg]) (by simp only [iI_add, iI_sub, iI_mul, iI_neg]) ?_
  refine l_put X gKt 1 rfl fJ7_33_2 rfl (gDp2 htw.symm) (Or.inl rfl) rfl rfl (Nat.le_of_ble_eq_true rfl) (L' := [(q1, w, .inr (8, [.ref x, .null, .null])), (a, t, .inr (2, [.int (iI (m + 1)), .int (iI (0 + 1)), .ref q1, .ref q1]))]) rfl ?_
  exact l_vret X hQ rfl rfl (Nat.le_of_ble_eq_true rfl) (Nat.le_of_ble_eq_true rfl) ⟨q1, rfl, rfl⟩
set_option maxHeartbeats 1000000 in
theorem jc_linkLastN (l : Launch) (EV : gEV) {a b x : Nat} {t u w : gTag} (htu : t ≠ u) (htw : t ≠ w) (huw : u ≠ w) {m s0 : Int} {v1 w0 w1 w2 : Value} : JC l yJ7_linkLast cJ7_linkLast 4 none 2 1 3 EV kT (tO3 t u w) [.ref a, .ref x] [(a, t, .inr (2, [.int (iI m), .int (iI s0), v1, .ref b])), (b, u, .inr (8, [w0, w1, w2]))] (fun v9 L9 => ∃ q : Nat, v9 = none ∧ L9 = [(q, w, .inr (8, [.ref x, .null, .ref b])), (a, t, .inr (2, [.int (iI (m + 1)), .int (iI (s0 + 1)), v1, .ref q])), (b, u, .inr (8, [w0, .ref q, w2]))]) := by
  refine l_body tbJ7_linkLast tkJ7_linkLast (by decide) (by intro v hv; simp only [List.mem_cons, List.not_mem_nil, or_false] at hv; rcases hv with rfl | rfl <;> rfl) (Nat.le_of_ble_eq_true rfl) (fun M0 z Q X hl hR hQ => ?_)
  subst hl
  refine l_eq (ls' := [some (.ref a), some (.ref x), none, none]) (st' := []) rfl rfl ?_
  refine l_run X 1 (pc1 := 1) (ls1 := [_, _, _, _]) (st1 := [_]) rfl ?_
  refine l_get X 0 rfl fJ7_27 rfl rfl ?_
  refine l_run X 1 (pc1 := 5) (ls1 := [_, _, _, _]) (st1 := []) rfl ?_
  refine l_new X gKt w rfl nJ7_22 (rc hR (Nat.le_of_ble_eq_true rfl)) (rs hR (Nat.le_of_ble_eq_true rfl)) (fun q1 => ?_)
  refine l_L (L' := [(a, t, .inr (2, [.int (iI m), .int (iI s0), v1, .ref b])), (b, u, .inr (8, [w0, w1, w2])), (q1, w, .inr (8, [.null, .null, .null]))]) rfl ?_
  refine l_run X 4 (pc1 := 12) (ls1 := [_, _, _, _]) (st1 := [_, _, _, _, _]) rfl ?_
  refine l_callIW X (gKt) [2] [0, 1] rfl mJ7_24 (jc_J29_initN z.2.1 EV (w := w)) (fun _ _ _ => trivial) rfl rfl (fun _ h => Or.inr (Or.inr h)) (fun y hy => by simp at hy; rcases hy with rfl | rfl <;> assumption) rfl rfl (Nat.le_of_ble_eq_true rfl) (gFit.of hR (Nat.le_of_ble_eq_true rfl) (Nat.le_of_ble_eq_true rfl) (Nat.le_of_ble_eq_true rfl)) (fun v9 L9 h9 => ?_)
  obtain ⟨rfl, rfl⟩ := h9
  refine l_eq (st' := [.ref q1]) rfl rfl ?_
  refine l_L (L' := [(q1, w, .inr (8, [.ref x, .null, .ref b])), (a, t, .inr (2, [.int (iI m), .int (iI s0), v1, .ref b])), (b, u, .inr (8, [w0, w1, w2]))]) rfl ?_
  refine l_run X 3 (pc1 := 18) (ls1 := [_, _, _, _]) (st1 := [_, _]) rfl ?_
  refine l_put X gKt 1 rfl fJ7_27 rfl (gDp3 htw.symm huw.symm htu) (Or.inl rfl) rfl rfl (Nat.le_of_ble_eq_true rfl) (L' := [(q1, w, .inr (8, [.ref x, .null, .ref b])), (a, t, .inr (2, [.int (iI m), .int (iI s0), v1, .ref q1])), (b, u, .inr (8, [w0, w1, w2]))]) rfl ?_
  refine l_run X 4 (pc1 := 35) (ls1 := [_, _, _, _]) (st1 := [_, _]) rfl ?_
  refine l_put X gKt 2 rfl fJ7_36 rfl (gDp3 htw.symm huw.symm htu) (Or.inr (Or.inl rfl)) rfl rfl (Nat.le_of_ble_eq_true rfl) (L' := [(q1, w, .inr (8, [.ref x, .null, .ref b])), (a, t, .inr (2, [.int (iI m), .int (iI s0), v1, .ref q1])), (b, u, .inr (8, [w0, .ref q1, w2]))]) rfl ?_
  refine l_run X 2 (pc1 := 40) (ls1 := [_, _, _, _]) (st1 := [_, _]) rfl ?_
  refine l_get X 1 rfl fJ7_7 rfl rfl ?_
  refine l_run X 2 (pc1 := 45) (ls1 := [_, _, _, _]) (st1 := [_, _]) rfl ?_
  refine l_eq (ls' := [some (.ref a), some (.ref x), some (.ref b), some (.ref q1)]) (st' := [.int (iI (s0 + 1)), .ref a]) (by simp only [iI_add, iI_sub, iI_mul, iI_neg]) (by simp only [iI_add, iI_sub, iI_mul, iI_neg]) ?_
  refine l_put X gKt 1 rfl fJ7_7 rfl (gDp3 htw.symm huw.symm htu) (Or.inl rfl) rfl rfl (Nat.le_of_ble_eq_true rfl) (L' := [(q1, w, .inr (8, [.ref x, .null, .ref b])), (a, t, .inr (2, [.int (iI m), .int (iI (s0 + 1)), v1, .ref q1])), (b, u, .inr (8, [w0, .ref q1, w2]))]) rfl ?_
  refine l_run X 2 (pc1 := 50) (ls1 := [_, _, _, _]) (st1 := [_, _]) rfl ?_
  refine l_get X 1 rfl fJ7_33_2 rfl rfl ?_
  refine l_run X 2 (pc1 := 55) (ls1 := [_, _, _, _]) (st1 := [_, _]) rfl ?_
  refine l_eq (ls' := [some (.ref a), some (.ref x), some (.ref b), some (.ref q1)]) (st' := [.int (iI (m + 1)), .ref a]) (by simp only [iI_add, iI_sub, iI_mul, iI_neg]) (by simp only [iI_add, iI_sub, iI_mul, iI_neg]) ?_
  refine l_put X gKt 1 rfl fJ7_33_2 rfl (gDp3 htw.symm huw.symm htu) (Or.inl rfl) rfl rfl (Nat.le_of_ble_eq_true rfl) (L' := [(q1, w, .inr (8, [.ref x, .null, .ref b])), (a, t, .inr (2, [.int (iI (m + 1)), .int (iI (s0 + 1)), v1, .ref q1])), (b, u, .inr (8, [w0, .ref q1, w2]))]) rfl ?_
  exact l_vret X hQ rfl rfl (Nat.le_of_ble_eq_true rfl) (Nat.le_of_ble_eq_true rfl) ⟨q1, rfl, rfl⟩
set_option maxHeartbeats 1000000 in
theorem jc_addLastE (l : Launch) (EV : gEV) {a x : Nat} {t w : gTag} (htw : t ≠ w) {m : Int} : JC l yJ7_addLast cJ7_addLast 2 none 3 1 3 EV kT (tO2 t w) [.ref a, .ref x] [(a, t, .inr (2, [.int (iI m), .int (iI 0), .null, .null]))] (fun v9 L9 => ∃ q : Nat, v9 = none ∧ L9 = [(q, w, .inr (8, [.ref x, .null, .null])), (a, t, .inr (2, [.int (iI (m + 1)), .int (iI 1), .ref q, .ref q]))]) := by
  refine l_body tbJ7_addLast tkJ7_addLast (by decide) (by intro v hv; simp only [List.mem_cons, List.not_mem_nil, or_false] at hv; rcases hv with rfl | rfl <;> rfl) (Nat.le_of_ble_eq_true rfl) (fun M0 z Q X hl hR hQ => ?_)
  subst hl
  refine l_eq (ls' := [some (.ref a), some (.ref x)]) (st' := []) rfl rfl ?_
  refine l_run X 2 (pc1 := 2) (ls1 := [_, _]) (st1 := [_, _]) rfl ?_
  refine l_callV X gKt [0] [] 0 rfl mJ7_57 (jc_linkLastE z.2.1 EV htw) rfl (fun _ _ _ => trivial) rfl rfl (fun _ h => h) (fun _ h => by cases h) rfl rfl (Nat.le_of_ble_eq_true rfl) (gFit.of hR (Nat.le_of_ble_eq_true rfl) (Nat.le_of_ble_eq_true rfl) (Nat.le_of_ble_eq_true rfl)) (fun v9 L9 h9 => ?_)
  obtain ⟨q1, rfl, rfl⟩ := h9
  refine l_eq (st' := []) rfl rfl ?_
  refine l_L (L' := [(q1, w, .inr (8, [.ref x, .null, .null])), (a, t, .inr (2, [.int (iI (m + 1)), .int (iI 1), .ref q1, .ref q1]))]) rfl ?_
  exact l_vret X hQ rfl rfl (Nat.le_of_ble_eq_true rfl) (Nat.le_of_ble_eq_true rfl) ⟨q1, rfl, rfl⟩
set_option maxHeartbeats 1000000 in
theorem jc_addLastN (l : Launch) (EV : gEV) {a b x : Nat} {t u w : gTag} (htu : t ≠ u) (htw : t ≠ w) (huw : u ≠ w) {m s0 : Int} {v1 w0 w1 w2 : Value} : JC l yJ7_addLast cJ7_addLast 2 none 3 1 3 EV kT (tO3 t u w) [.ref a, .ref x] [(a, t, .inr (2, [.int (iI m), .int (iI s0), v1, .ref b])), (b, u, .inr (8, [w0, w1, w2]))] (fun v9 L9 => ∃ q : Nat, v9 = none ∧ L9 = [(q, w, .inr (8, [.ref x, .null, .ref b])), (a, t, .inr (2, [.int (iI (m + 1)), .int (iI (s0 + 1)), v1, .ref q])), (b, u, .inr (8, [w0, .ref q, w2]))]) := by
  refine l_body tbJ7_addLast tkJ7_addLast (by decide) (by intro v hv; simp only [List.mem_cons, List.not_mem_nil, or_false] at hv; rcases hv with rfl | rfl <;> rfl) (Nat.le_of_ble_eq_true rfl) (fun M0 z Q X hl hR hQ => ?_)
  subst hl
  refine l_eq (ls' := [some (.ref a), some (.ref x)]) (st' := []) rfl rfl ?_
  refine l_run X 2 (pc1 := 2) (ls1 := [_, _]) (st1 := [_, _]) rfl ?_
  refine l_callV X gKt [0, 1] [] 0 rfl mJ7_57 (jc_linkLastN z.2.1 EV htu htw huw) rfl (fun _ _ _ => trivial) rfl rfl (fun _ h => h) (fun _ h => by cases h) rfl rfl (Nat.le_of_ble_eq_true rfl) (gFit.of hR (Nat.le_of_ble_eq_true rfl) (Nat.le_of_ble_eq_true rfl) (Nat.le_of_ble_eq_true rfl)) (fun v9 L9 h9 => ?_)
  obtain ⟨q1, rfl, rfl⟩ := h9
  refine l_eq (st' := []) rfl rfl ?_
  refine l_L (L' := [(q1, w, .inr (8, [.ref x, .null, .ref b])), (a, t, .inr (2, [.int (iI (m + 1)), .int (iI (s0 + 1)), v1, .ref q1])), (b, u, .inr (8, [w0, .ref q1, w2]))]) rfl ?_
  exact l_vret X hQ rfl rfl (Nat.le_of_ble_eq_true rfl) (Nat.le_of_ble_eq_true rfl) ⟨q1, rfl, rfl⟩
set_option maxHeartbeats 1000000 in
theorem jc_unlink1 (l : Launch) (EV : gEV) {a b x : Nat} {t u : gTag} (htu : t ≠ u) {m s0 : Int} {v1 w1 : Value} : JC l yJ7_unlinkLast cJ7_unlinkLast 4 (some (.object "java/lang/Object")) 1 0 0 EV kT (tO2 t u) [.ref a, .ref b] [(a, t, .inr (2, [.int (iI m), .int (iI s0), v1, .ref b])), (b, u, .inr (8, [.ref x, w1, .null]))] (jP (some (.ref x)) [(a, t, .inr (2, [.int (iI (m + 1)), .int (iI (s0 - 1)), .null, .null])), (b, u, .inr (8, [.null, w1, .null]))]) := by
  refine l_body tbJ7_unlinkLast tkJ7_unlinkLast (by decide) (by intro v hv; simp only [List.mem_cons, List.not_mem_nil, or_false] at hv; rcases hv with rfl | rfl <;> rfl) (Nat.le_of_ble_eq_true rfl) (fun M0 z Q X hl hR hQ => ?_)
  subst hl
  refine l_eq (ls' := [some (.ref a), some (.ref b), none, none]) (st' := []) rfl rfl ?_
  refine l_run X 1 (pc1 := 1) (ls1 := [_, _, _, _]) (st1 := [_]) rfl ?_
  refine l_get X 1 rfl fJ7_39 rfl rfl ?_
  refine l_run X 2 (pc1 := 6) (ls1 := [_, _, _, _]) (st1 := [_]) rfl ?_
  refine l_get X 1 rfl fJ7_30 rfl rfl ?_
  refine l_run X 3 (pc1 := 12) (ls1 := [_, _, _, _]) (st1 := [_, _]) rfl ?_
  refine l_put X gKt 1 rfl fJ7_39 rfl (gDp2 htu) (Or.inr rfl) rfl rfl (Nat.le_of_ble_eq_true rfl) (L' := [(a, t, .inr (2, [.int (iI m), .int (iI s0), v1, .ref b])), (b, u, .inr (8, [.null, w1, .null]))]) rfl ?_
  refine l_run X 2 (pc1 := 17) (ls1 := [_, _, _, _]) (st1 := [_, _]) rfl ?_
  refine l_put X gKt 1 rfl fJ7_30 rfl (gDp2 htu) (Or.inr rfl) rfl rfl (Nat.le_of_ble_eq_true rfl) (L' := [(a, t, .inr (2, [.int (iI m), .int (iI s0), v1, .ref b])), (b, u, .inr (8, [.null, w1, .null]))]) rfl ?_
  refine l_run X 2 (pc1 := 22) (ls1 := [_, _, _, _]) (st1 := [_, _]) rfl ?_
  refine l_put X gKt 0 rfl fJ7_27 rfl (gDp2 htu) (Or.inl rfl) rfl rfl (Nat.le_of_ble_eq_true rfl) (L' := [(a, t, .inr (2, [.int (iI m), .int (iI s0), v1, .null])), (b, u, .inr (8, [.null, w1, .null]))]) rfl ?_
  refine l_run X 4 (pc1 := 31) (ls1 := [_, _, _, _]) (st1 := [_, _]) rfl ?_
  refine l_put X gKt 0 rfl fJ7_18 rfl (gDp2 htu) (Or.inl rfl) rfl rfl (Nat.le_of_ble_eq_true rfl) (L' := [(a, t, .inr (2, [.int (iI m), .int (iI s0), .null, .null])), (b, u, .inr (8, [.null, w1, .null]))]) rfl ?_
  refine l_run X 3 (pc1 := 44) (ls1 := [_, _, _, _]) (st1 := [_, _]) rfl ?_
  refine l_get X 0 rfl fJ7_7 rfl rfl ?_
  refine l_run X 2 (pc1 := 49) (ls1 := [_, _, _, _]) (st1 := [_, _]) rfl ?_
  refine l_eq (ls' := [some (.ref a), some (.ref b), some (.ref x), some (.null)]) (st' := [.int (iI (s0 - 1)), .ref a]) (by simp only [iI_add, iI_sub, iI_mul, iI_neg]) (by simp only [iI_add, iI_sub, iI_mul, iI_neg]) ?_
  refine l_put X gKt 0 rfl fJ7_7 rfl (gDp2 htu) (Or.inl rfl) rfl rfl (Nat.le_of_ble_eq_true rfl) (L' := [(a, t, .inr (2, [.int (iI m), .int (iI (s0 - 1)), .null, .null])), (b, u, .inr (8, [.null, w1, .null]))]) rfl ?_
  refine l_run X 2 (pc1 := 54) (ls1 := [_, _, _, _]) (st1 := [_, _]) rfl ?_
  refine l_get X 0 rfl fJ7_33_2 rfl rfl ?_
  refine l_run X 2 (pc1 := 59) (ls1 := [_, _, _, _]) (st1 := [_, _]) rfl ?_
  refine l_eq (ls' := [some (.ref a), some (.ref b), some (.ref x), some (.null)]) (st' := [.int (iI (m + 1)), .ref a]) (by simp only [iI_add, iI_sub, iI_mul, iI_neg]) (by simp only [iI_add, iI_sub, iI_mul, iI_neg]) ?_
  refine l_put X gKt 0 rfl fJ7_33_2 rfl (gDp2 htu) (Or.inl rfl) rfl rfl (Nat.le_of_ble_eq_true rfl) (L' := [(a, t, .inr (2, [.int (iI (m + 1)), .int (iI (s0 - 1)), .null, .null])), (b, u, .inr (8, [.null, w1, .null]))]) rfl ?_
  refine l_run X 1 (pc1 := 63) (ls1 := [_, _, _, _]) (st1 := [_]) rfl ?_
  exact l_aret X hQ rfl rfl (by first | exact Or.inl ⟨_, rfl⟩ | exact Or.inr ⟨_, rfl⟩) (Or.inr ⟨_, rfl⟩) (Nat.le_of_ble_eq_true rfl) (Nat.le_of_ble_eq_true rfl) ⟨rfl, rfl⟩
set_option maxHeartbeats 1000000 in
theorem jc_unlink2 (l : Launch) (EV : gEV) {a b c x : Nat} {t u w : gTag} (htu : t ≠ u) (htw : t ≠ w) (huw : u ≠ w) {m s0 : Int} {v1 w1 y0 y1 y2 : Value} : JC l yJ7_unlinkLast cJ7_unlinkLast 4 (some (.object "java/lang/Object")) 1 0 0 EV kT (tO3 t u w) [.ref a, .ref b] [(a, t, .inr (2, [.int (iI m), .int (iI s0), v1, .ref b])), (b, u, .inr (8, [.ref x, w1, .ref c])), (c, w, .inr (8, [y0, y1, y2]))] (jP (some (.ref x)) [(a, t, .inr (2, [.int (iI (m + 1)), .int (iI (s0 - 1)), v1, .ref c])), (b, u, .inr (8, [.null, w1, .null])), (c, w, .inr (8, [y0, .null, y2]))]) := by
  refine l_body tbJ7_unlinkLast tkJ7_unlinkLast (by decide) (by intro v hv; simp only [List.mem_cons, List.not_mem_nil, or_false] at hv; rcases hv with rfl | rfl <;> rfl) (Nat.le_of_ble_eq_true rfl) (fun M0 z Q X hl hR hQ => ?_)
  subst hl
  refine l_eq (ls' := [some (.ref a), some (.ref b), none, none]) (st' := []) rfl rfl ?_
  refine l_run X 1 (pc1 := 1) (ls1 := [_, _, _, _]) (st1 := [_]) rfl ?_
  refine l_get X 1 rfl fJ7_39 rfl rfl ?_
  refine l_run X 2 (pc1 := 6) (ls1 := [_, _, _, _]) (st1 := [_]) rfl ?_
  refine l_get X 1 rfl fJ7_30 rfl rfl ?_
  refine l_run X 3 (pc1 := 12) (ls1 := [_, _, _, _]) (st1 := [_, _]) rfl ?_
  refine l_put X gKt 1 rfl fJ7_39 rfl (gDp3 htu htw huw) (Or.inr (Or.inl rfl)) rfl rfl (Nat.le_of_ble_eq_true rfl) (L' := [(a, t, .inr (2, [.int (iI m), .int (iI s0), v1, .ref b])), (b, u, .inr (8, [.null, w1, .ref c])), (c, w, .inr (8, [y0, y1, y2]))]) rfl ?_
  refine l_run X 2 (pc1 := 17) (ls1 := [_, _, _, _]) (st1 := [_, _]) rfl ?_
  refine l_put X gKt 1 rfl fJ7_30 rfl (gDp3 htu htw huw) (Or.inr (Or.inl rfl)) rfl rfl (Nat.le_of_ble_eq_true rfl) (L' := [(a, t, .inr (2, [.int (iI m), .int (iI s0), v1, .ref b])), (b, u, .inr (8, [.null, w1, .null])), (c, w, .inr (8, [y0, y1, y2]))]) rfl ?_
  refine l_run X 2 (pc1 := 22) (ls1 := [_, _, _, _]) (st1 := [_, _]) rfl ?_
  refine l_put X gKt 0 rfl fJ7_27 rfl (gDp3 htu htw huw) (Or.inl rfl) rfl rfl (Nat.le_of_ble_eq_true rfl) (L' := [(a, t, .inr (2, [.int (iI m), .int (iI s0), v1, .ref c])), (b, u, .inr (8, [.null, w1, .null])), (c, w, .inr (8, [y0, y1, y2]))]) rfl ?_
  refine l_run X 4 (pc1 := 39) (ls1 := [_, _, _, _]) (st1 := [_, _]) rfl ?_
  refine l_put X gKt 2 rfl fJ7_36 rfl (gDp3 htu htw huw) (Or.inr (Or.inr rfl)) rfl rfl (Nat.le_of_ble_eq_true rfl) (L' := [(a, t, .inr (2, [.int (iI m), .int (iI s0), v1, .ref c])), (b, u, .inr (8, [.null, w1, .null])), (c, w, .inr (8, [y0, .null, y2]))]) rfl ?_
  refine l_run X 2 (pc1 := 44) (ls1 := [_, _, _, _]) (st1 := [_, _]) rfl ?_
  refine l_get X 0 rfl fJ7_7 rfl rfl ?_
  refine l_run X 2 (pc1 := 49) (ls1 := [_, _, _, _]) (st1 := [_, _]) rfl ?_
  refine l_eq (ls' := [some (.ref a), some (.ref b), some (.ref x), some (.ref c)]) (st' := [.int (iI (s0 - 1)), .ref a]) (by simp only [iI_add, iI_sub, iI_mul, iI_neg]) (by simp only [iI_add, iI_sub, iI_mul, iI_neg]) ?_
  refine l_put X gKt 0 rfl fJ7_7 rfl (gDp3 htu htw huw) (Or.inl rfl) rfl rfl (Nat.le_of_ble_eq_true rfl) (L' := [(a, t, .inr (2, [.int (iI m), .int (iI (s0 - 1)), v1, .ref c])), (b, u, .inr (8, [.null, w1, .null])), (c, w, .inr (8, [y0, .null, y2]))]) rfl ?_
  refine l_run X 2 (pc1 := 54) (ls1 := [_, _, _, _]) (st1 := [_, _]) rfl ?_
  refine l_get X 0 rfl fJ7_33_2 rfl rfl ?_
  refine l_run X 2 (pc1 := 59) (ls1 := [_, _, _, _]) (st1 := [_, _]) rfl ?_
  refine l_eq (ls' := [some (.ref a), some (.ref b), some (.ref x), some (.ref c)]) (st' := [.int (iI (m + 1)), .ref a]) (by simp only [iI_add, iI_sub, iI_mul, iI_neg]) (by simp only [iI_add, iI_sub, iI_mul, iI_neg]) ?_
  refine l_put X gKt 0 rfl fJ7_33_2 rfl (gDp3 htu htw huw) (Or.inl rfl) rfl rfl (Nat.le_of_ble_eq_true rfl) (L' := [(a, t, .inr (2, [.int (iI (m + 1)), .int (iI (s0 - 1)), v1, .ref c])), (b, u, .inr (8, [.null, w1, .null])), (c, w, .inr (8, [y0, .null, y2]))]) rfl ?_
  refine l_run X 1 (pc1 := 63) (ls1 := [_, _, _, _]) (st1 := [_]) rfl ?_
  exact l_aret X hQ rfl rfl (by first | exact Or.inl ⟨_, rfl⟩ | exact Or.inr ⟨_, rfl⟩) (Or.inr ⟨_, rfl⟩) (Nat.le_of_ble_eq_true rfl) (Nat.le_of_ble_eq_true rfl) ⟨rfl, rfl⟩
set_option maxHeartbeats 1000000 in
theorem jc_remove1 (l : Launch) (EV : gEV) {a b x : Nat} {t u : gTag} (htu : t ≠ u) {m s0 : Int} {v1 w1 : Value} : JC l yJ7_removeLast cJ7_removeLast 2 (some (.object "java/lang/Object")) 2 0 0 EV kT (tO2 t u) [.ref a] [(a, t, .inr (2, [.int (iI m), .int (iI s0), v1, .ref b])), (b, u, .inr (8, [.ref x, w1, .null]))] (jP (some (.ref x)) [(a, t, .inr (2, [.int (iI (m + 1)), .int (iI (s0 - 1)), .null, .null])), (b, u, .inr (8, [.null, w1, .null]))]) := by
  refine l_body tbJ7_removeLast tkJ7_removeLast (by decide) (by intro v hv; simp only [List.mem_cons, List.not_mem_nil, or_false] at hv; rcases hv with rfl <;> rfl) (Nat.le_of_ble_eq_true rfl) (fun M0 z Q X hl hR hQ => ?_)
  subst hl
  refine l_eq (ls' := [some (.ref a), none]) (st' := []) rfl rfl ?_
  refine l_run X 1 (pc1 := 1) (ls1 := [_, _]) (st1 := [_]) rfl ?_
  refine l_get X 0 rfl fJ7_27 rfl rfl ?_
  refine l_run X 5 (pc1 := 19) (ls1 := [_, _]) (st1 := [_, _]) rfl ?_
  refine l_callV X gKt [0, 1] [] 0 rfl mJ7_50 (jc_unlink1 z.2.1 EV htu) rfl (fun _ _ _ => trivial) rfl rfl (fun _ h => h) (fun _ h => by cases h) rfl rfl (Nat.le_of_ble_eq_true rfl) (gFit.of hR (Nat.le_of_ble_eq_true rfl) (Nat.le_of_ble_eq_true rfl) (Nat.le_of_ble_eq_true rfl)) (fun v9 L9 h9 => ?_)
  obtain ⟨rfl, rfl⟩ := h9
  refine l_eq (st' := [.ref x]) rfl rfl ?_
  refine l_L (L' := [(a, t, .inr (2, [.int (iI (m + 1)), .int (iI (s0 - 1)), .null, .null])), (b, u, .inr (8, [.null, w1, .null]))]) rfl ?_
  exact l_aret X hQ rfl rfl (by first | exact Or.inl ⟨_, rfl⟩ | exact Or.inr ⟨_, rfl⟩) (Or.inr ⟨_, rfl⟩) (Nat.le_of_ble_eq_true rfl) (Nat.le_of_ble_eq_true rfl) ⟨rfl, rfl⟩
set_option maxHeartbeats 1000000 in
theorem jc_remove2 (l : Launch) (EV : gEV) {a b c x : Nat} {t u w : gTag} (htu : t ≠ u) (htw : t ≠ w) (huw : u ≠ w) {m s0 : Int} {v1 w1 y0 y1 y2 : Value} : JC l yJ7_removeLast cJ7_removeLast 2 (some (.object "java/lang/Object")) 2 0 0 EV kT (tO3 t u w) [.ref a] [(a, t, .inr (2, [.int (iI m), .int (iI s0), v1, .ref b])), (b, u, .inr (8, [.ref x, w1, .ref c])), (c, w, .inr (8, [y0, y1, y2]))] (jP (some (.ref x)) [(a, t, .inr (2, [.int (iI (m + 1)), .int (iI (s0 - 1)), v1, .ref c])), (b, u, .inr (8, [.null, w1, .null])), (c, w, .inr (8, [y0, .null, y2]))]) := by
  refine l_body tbJ7_removeLast tkJ7_removeLast (by decide) (by intro v hv; simp only [List.mem_cons, List.not_mem_nil, or_false] at hv; rcases hv with rfl <;> rfl) (Nat.le_of_ble_eq_true rfl) (fun M0 z Q X hl hR hQ => ?_)
  subst hl
  refine l_eq (ls' := [some (.ref a), none]) (st' := []) rfl rfl ?_
  refine l_run X 1 (pc1 := 1) (ls1 := [_, _]) (st1 := [_]) rfl ?_
  refine l_get X 0 rfl fJ7_27 rfl rfl ?_
  refine l_run X 5 (pc1 := 19) (ls1 := [_, _]) (st1 := [_, _]) rfl ?_
  refine l_callV X gKt [0, 1, 2] [] 0 rfl mJ7_50 (jc_unlink2 z.2.1 EV htu htw huw) rfl (fun _ _ _ => trivial) rfl rfl (fun _ h => h) (fun _ h => by cases h) rfl rfl (Nat.le_of_ble_eq_true rfl) (gFit.of hR (Nat.le_of_ble_eq_true rfl) (Nat.le_of_ble_eq_true rfl) (Nat.le_of_ble_eq_true rfl)) (fun v9 L9 h9 => ?_)
  obtain ⟨rfl, rfl⟩ := h9
  refine l_eq (st' := [.ref x]) rfl rfl ?_
  refine l_L (L' := [(a, t, .inr (2, [.int (iI (m + 1)), .int (iI (s0 - 1)), v1, .ref c])), (b, u, .inr (8, [.null, w1, .null])), (c, w, .inr (8, [y0, .null, y2]))]) rfl ?_
  exact l_aret X hQ rfl rfl (by first | exact Or.inl ⟨_, rfl⟩ | exact Or.inr ⟨_, rfl⟩) (Or.inr ⟨_, rfl⟩) (Nat.le_of_ble_eq_true rfl) (Nat.le_of_ble_eq_true rfl) ⟨rfl, rfl⟩
set_option maxHeartbeats 1000000 in
theorem jc_getLast (l : Launch) (EV : gEV) {a b x : Nat} {t u : gTag} {m s0 : Int} {v1 w1 w2 : Value} : JC l yJ7_getLast cJ7_getLast 2 (some (.object "java/lang/Object")) 1 0 0 EV kT tF [.ref a] [(a, t, .inr (2, [.int (iI m), .int (iI s0), v1, .ref b])), (b, u, .inr (8, [.ref x, w1, w2]))] (jP (some (.ref x)) [(a, t, .inr (2, [.int (iI m), .int (iI s0), v1, .ref b])), (b, u, .inr (8, [.ref x, w1, w2]))]) := by
  refine l_body tbJ7_getLast tkJ7_getLast (by decide) (by intro v hv; simp only [List.mem_cons, List.not_mem_nil, or_false] at hv; rcases hv with rfl <;> rfl) (Nat.le_of_ble_eq_true rfl) (fun M0 z Q X hl hR hQ => ?_)
  subst hl
  refine l_eq (ls' := [some (.ref a), none]) (st' := []) rfl rfl ?_
  refine l_run X 1 (pc1 := 1) (ls1 := [_, _]) (st1 := [_]) rfl ?_
  refine l_get X 0 rfl fJ7_27 rfl rfl ?_
  refine l_run X 4 (pc1 := 18) (ls1 := [_, _]) (st1 := [_]) rfl ?_
  refine l_get X 1 rfl fJ7_39 rfl rfl ?_
  exact l_aret X hQ rfl rfl (by first | exact Or.inl ⟨_, rfl⟩ | exact Or.inr ⟨_, rfl⟩) (Or.inr ⟨_, rfl⟩) (Nat.le_of_ble_eq_true rfl) (Nat.le_of_ble_eq_true rfl) ⟨rfl, rfl⟩
set_option maxHeartbeats 1000000 in
theorem jc_isElem (l : Launch) (EV : gEV) {a : Nat} {t : gTag} {m s0 x : Int} (hs : inR s0) (hx : inR x) {v1 v2 : Value} : JC l yJ7_isElementIndex cJ7_isElementIndex 2 (some .boolean) 1 0 0 EV kT tF [.ref a, .int (iI x)] [(a, t, .inr (2, [.int (iI m), .int (iI s0), v1, v2]))] (jP (some (.int (iI (bI (0 ≤ x ∧ x < s0))))) [(a, t, .inr (2, [.int (iI m), .int (iI s0), v1, v2]))]) := by
  refine l_body tbJ7_isElementIndex tkJ7_isElementIndex (by decide) (by intro v hv; simp only [List.mem_cons, List.not_mem_nil, or_false] at hv; rcases hv with rfl | rfl <;> rfl) (Nat.le_of_ble_eq_true rfl) (fun M0 z Q X hl hR hQ => ?_)
  subst hl
  refine l_eq (ls' := [some (.ref a), some (.int (iI x))]) (st' := []) rfl rfl ?_
  refine l_run X 1 (pc1 := 1) (ls1 := [_, _]) (st1 := [_]) rfl ?_
  refine l_br X (pc1 := 16) (st1 := []) rfl (fun b9 => ?_) (fun b9 => ?_)
  · have c1 : x < 0 := cLt b9 (by omega) (by omega)
    refine l_run X 1 (pc1 := 17) (ls1 := [_, _]) (st1 := [_]) rfl ?_
    exact l_zret X hQ rfl rfl rfl (Nat.le_refl _) (Nat.le_refl _) ⟨by rw [bI_0 (by omega)], rfl⟩
  · have c1 : 0 ≤ x := cNl b9 (by omega) (by omega)
    refine l_run X 2 (pc1 := 6) (ls1 := [_, _]) (st1 := [_, _]) rfl ?_
    refine l_get X 0 rfl fJ7_7 rfl rfl ?_
    refine l_br X (pc1 := 16) (st1 := []) rfl (fun b9 => ?_) (fun b9 => ?_)
    · have c9 : s0 ≤ x := cLe b9 (by omega) (by omega)
      refine l_run X 1 (pc1 := 17) (ls1 := [_, _]) (st1 := [_]) rfl ?_
      exact l_zret X hQ rfl rfl rfl (Nat.le_refl _) (Nat.le_refl _) ⟨by rw [bI_0 (by omega)], rfl⟩
    · have c9 : x < s0 := cNe b9 (by omega) (by omega)
      refine l_run X 2 (pc1 := 17) (ls1 := [_, _]) (st1 := [_]) rfl ?_
      exact l_zret X hQ rfl rfl rfl (Nat.le_refl _) (Nat.le_refl _) ⟨by rw [bI_1 (by omega)], rfl⟩
set_option maxHeartbeats 1000000 in
theorem jc_isPos (l : Launch) (EV : gEV) {a : Nat} {t : gTag} {m s0 x : Int} (hs : inR s0) (hx : inR x) {v1 v2 : Value} : JC l yJ7_isPositionIndex cJ7_isPositionIndex 2 (some .boolean) 1 0 0 EV kT tF [.ref a, .int (iI x)] [(a, t, .inr (2, [.int (iI m), .int (iI s0), v1, v2]))] (jP (some (.int (iI (bI (0 ≤ x ∧ x ≤ s0))))) [(a, t, .inr (2, [.int (iI m), .int (iI s0), v1, v2]))]) := by
  refine l_body tbJ7_isPositionIndex tkJ7_isPositionIndex (by decide) (by intro v hv; simp only [List.mem_cons, List.not_mem_nil, or_false] at hv; rcases hv with rfl | rfl <;> rfl) (Nat.le_of_ble_eq_true rfl) (fun M0 z Q X hl hR hQ => ?_)
  subst hl
  refine l_eq (ls' := [some (.ref a), some (.int (iI x))]) (st' := []) rfl rfl ?_
  refine l_run X 1 (pc1 := 1) (ls1 := [_, _]) (st1 := [_]) rfl ?_
  refine l_br X (pc1 := 16) (st1 := []) rfl (fun b9 => ?_) (fun b9 => ?_)
  · have c1 : x < 0 := cLt b9 (by omega) (by omega)
    refine l_run X 1 (pc1 := 17) (ls1 := [_, _]) (st1 := [_]) rfl ?_
    exact l_zret X hQ rfl rfl rfl (Nat.le_refl _) (Nat.le_refl _) ⟨by rw [bI_0 (by omega)], rfl⟩
  · have c1 : 0 ≤ x := cNl b9 (by omega) (by omega)
    refine l_run X 2 (pc1 := 6) (ls1 := [_, _]) (st1 := [_, _]) rfl ?_
    refine l_get X 0 rfl fJ7_7 rfl rfl ?_
    refine l_br X (pc1 := 16) (st1 := []) rfl (fun b9 => ?_) (fun b9 => ?_)
    · have c9 : s0 < x := cLt b9 (by omega) (by omega)
      refine l_run X 1 (pc1 := 17) (ls1 := [_, _]) (st1 := [_]) rfl ?_
      exact l_zret X hQ rfl rfl rfl (Nat.le_refl _) (Nat.le_refl _) ⟨by rw [bI_0 (by omega)], rfl⟩
    · have c9 : x ≤ s0 := cNl b9 (by omega) (by omega)
      refine l_run X 2 (pc1 := 17) (ls1 := [_, _]) (st1 := [_]) rfl ?_
      exact l_zret X hQ rfl rfl rfl (Nat.le_refl _) (Nat.le_refl _) ⟨by rw [bI_1 (by omega)], rfl⟩
set_option maxHeartbeats 1000000 in
theorem jc_chkElem (l : Launch) (EV : gEV) {a : Nat} {t : gTag} {m s0 x : Int} (hs : inR s0) (hx : 0 ≤ x ∧ x < s0) {v1 v2 : Value} : JC l yJ7_checkElementIndex cJ7_checkElementIndex 2 none 2 0 0 EV kT tF [.ref a, .int (iI x)] [(a, t, .inr (2, [.int (iI m), .int (iI s0), v1, v2]))] (jP none [(a, t, .inr (2, [.int (iI m), .int (iI s0), v1, v2]))]) := by
  refine l_body tbJ7_checkElementIndex tkJ7_checkElementIndex (by decide) (by intro v hv; simp only [List.mem_cons, List.not_mem_nil, or_false] at hv; rcases hv with rfl | rfl <;> rfl) (Nat.le_of_ble_eq_true rfl) (fun M0 z Q X hl hR hQ => ?_)
  subst hl
  refine l_eq (ls' := [some (.ref a), some (.int (iI x))]) (st' := []) rfl rfl ?_
  refine l_run X 2 (pc1 := 2) (ls1 := [_, _]) (st1 := [_, _]) rfl ?_
  refine l_callV X gKt [0] [] 0 rfl mJ7_115 (jc_isElem z.2.1 EV (by omega) (by omega)) rfl (fun _ _ _ => trivial) rfl rfl (fun _ h => h.elim) (fun _ _ h => h) rfl rfl (Nat.le_of_ble_eq_true rfl) (gFit.of hR (Nat.le_of_ble_eq_true rfl) (Nat.le_of_ble_eq_true rfl) (Nat.le_of_ble_eq_true rfl)) (fun v9 L9 h9 => ?_)
  obtain ⟨rfl, rfl⟩ := h9
  refine l_eq (st' := [.int (iI (bI (0 ≤ x ∧ x < s0)))]) rfl rfl ?_
  refine l_L (L' := [(a, t, .inr (2, [.int (iI m), .int (iI s0), v1, v2]))]) rfl ?_
  refine l_br X (pc1 := 21) (st1 := []) rfl (fun b9 => ?_) (fun b9 => ?_)
  · have c5 : 0 ≤ x ∧ x < s0 := bI_t b9
    exact l_vret X hQ rfl rfl (Nat.le_of_ble_eq_true rfl) (Nat.le_of_ble_eq_true rfl) ⟨rfl, rfl⟩
  · have c5 : ¬ (0 ≤ x ∧ x < s0) := bI_f b9
    exact absurd hx c5
set_option maxHeartbeats 1000000 in
theorem jc_chkPos (l : Launch) (EV : gEV) {a : Nat} {t : gTag} {m s0 x : Int} (hs : inR s0) (hx : 0 ≤ x ∧ x ≤ s0) {v1 v2 : Value} : JC l yJ7_checkPositionIndex cJ7_checkPositionIndex 2 none 2 0 0 EV kT tF [.ref a, .int (iI x)] [(a, t, .inr (2, [.int (iI m), .int (iI s0), v1, v2]))] (jP none [(a, t, .inr (2, [.int (iI m), .int (iI s0), v1, v2]))]) := by
  refine l_body tbJ7_checkPositionIndex tkJ7_checkPositionIndex (by decide) (by intro v hv; simp only [List.mem_cons, List.not_mem_nil, or_false] at hv; rcases hv with rfl | rfl <;> rfl) (Nat.le_of_ble_eq_true rfl) (fun M0 z Q X hl hR hQ => ?_)
  subst hl
  refine l_eq (ls' := [some (.ref a), some (.int (iI x))]) (st' := []) rfl rfl ?_
  refine l_run X 2 (pc1 := 2) (ls1 := [_, _]) (st1 := [_, _]) rfl ?_
  refine l_callV X gKt [0] [] 0 rfl mJ7_128 (jc_isPos z.2.1 EV (by omega) (by omega)) rfl (fun _ _ _ => trivial) rfl rfl (fun _ h => h.elim) (fun _ _ h => h) rfl rfl (Nat.le_of_ble_eq_true rfl) (gFit.of hR (Nat.le_of_ble_eq_true rfl) (Nat.le_of_ble_eq_true rfl) (Nat.le_of_ble_eq_true rfl)) (fun v9 L9 h9 => ?_)
  obtain ⟨rfl, rfl⟩ := h9
  refine l_eq (st' := [.int (iI (bI (0 ≤ x ∧ x ≤ s0)))]) rfl rfl ?_
  refine l_L (L' := [(a, t, .inr (2, [.int (iI m), .int (iI s0), v1, v2]))]) rfl ?_
  refine l_br X (pc1 := 21) (st1 := []) rfl (fun b9 => ?_) (fun b9 => ?_)
  · have c5 : 0 ≤ x ∧ x ≤ s0 := bI_t b9
    exact l_vret X hQ rfl rfl (Nat.le_of_ble_eq_true rfl) (Nat.le_of_ble_eq_true rfl) ⟨rfl, rfl⟩
  · have c5 : ¬ (0 ≤ x ∧ x ≤ s0) := bI_f b9
    exact absurd hx c5
set_option maxHeartbeats 1000000 in
theorem jc_node (l : Launch) (EV : gEV) {a li N : Nat} (hN : N ≤ 6) {ns f : Nat → Nat} {t : gTag} {m : Int} {x : Int} (hx : 0 ≤ x ∧ x < N) : JC l yJ7_node cJ7_node 4 (some (.object "java/util/LinkedList$Node")) 1 0 0 EV (kNs li 0 N N ns f) tF [.ref a, .int (iI x)] [(a, t, .inr (2, [.int (iI m), .int (iI ((N : Nat) : Int)), .ref (ns 0), .ref (ns (N - 1))]))] (jP (some (.ref (ns x.toNat))) [(a, t, .inr (2, [.int (iI m), .int (iI ((N : Nat) : Int)), .ref (ns 0), .ref (ns (N - 1))]))]) := by
  refine l_body tbJ7_node tkJ7_node (by decide) (by intro v hv; simp only [List.mem_cons, List.not_mem_nil, or_false] at hv; rcases hv with rfl | rfl <;> rfl) (Nat.le_of_ble_eq_true rfl) (fun M0 z Q X hl hR hQ => ?_)
  subst hl
  have hK : gKT (kNs li 0 N N ns f) tF := kNs_T (fun _ _ _ h => h)
  have loop1 : ∀ (j p : Nat), (p : Int) + j = x → gLj z (cJ7_node, yJ7_node.cls, 4, (some (.object "java/util/LinkedList$Node")), tbJ7_node, yJ7_node.name) EV Q (kNs li 0 N N ns f) tF M0 [(a, t, .inr (2, [.int (iI m), .int (iI ((N : Nat) : Int)), .ref (ns 0), .ref (ns (N - 1))]))] 0 0 17 [some (.ref a), some (.int (iI x)), some (.ref (ns p)), some (.int (iI (p : Int)))] [] := by
    intro j
    induction j with
    | zero =>
      intro p hp
      refine l_run X 2 (pc1 := 19) (ls1 := [_, _, _, _]) (st1 := [_, _]) rfl ?_
      refine l_br X (pc1 := 33) (st1 := []) rfl (fun b9 => ?_) (fun b9 => ?_)
      · have c19 : x ≤ (p : Int) := cLe b9 (by omega) (by omega)
        refine l_run X 1 (pc1 := 34) (ls1 := [_, _, _, _]) (st1 := [_]) rfl ?_
        have e9 : p = x.toNat := by omega
        subst e9
        exact l_aret X hQ rfl rfl (by first | exact Or.inl ⟨_, rfl⟩ | exact Or.inr ⟨_, rfl⟩) (Or.inr ⟨_, rfl⟩) (Nat.le_of_ble_eq_true rfl) (Nat.le_of_ble_eq_true rfl) ⟨rfl, rfl⟩
      · have c19 : (p : Int) < x := cNe b9 (by omega) (by omega)
        exact absurd c19 (by omega)
    | succ j ih =>
      intro p hp
      refine l_run X 2 (pc1 := 19) (ls1 := [_, _, _, _]) (st1 := [_, _]) rfl ?_
      refine l_br X (pc1 := 33) (st1 := []) rfl (fun b9 => ?_) (fun b9 => ?_)
      · have c19 : x ≤ (p : Int) := cLe b9 (by omega) (by omega)
        exact absurd c19 (by omega)
      · have c19 : (p : Int) < x := cNe b9 (by omega) (by omega)
        refine l_run X 1 (pc1 := 23) (ls1 := [_, _, _, _]) (st1 := [_]) rfl ?_
        refine l_getK X (v := .ref (ns (p + 1))) rfl fJ7_36 (fun M h => h (p) (by omega) (by omega)) (by show some (gNx ns N _) = _; rw [gNx_1 (by omega)]) ?_
        refine l_run X 3 (pc1 := 17) (ls1 := [_, _, _, _]) (st1 := []) rfl ?_
        refine l_eq (ls' := [some (.ref a), some (.int (iI x)), some (.ref (ns (p + 1))), some (.int (iI ((p : Int) + 1)))]) (st' := []) (by simp only [iI_add, iI_sub, iI_mul, iI_neg]) (by simp only [iI_add, iI_sub, iI_mul, iI_neg]) ?_
        exact ih (p + 1) (by omega)
  have loop2 : ∀ (j p : Nat), (p : Int) = x + j → p < N → gLj z (cJ7_node, yJ7_node.cls, 4, (some (.object "java/util/LinkedList$Node")), tbJ7_node, yJ7_node.name) EV Q (kNs li 0 N N ns f) tF M0 [(a, t, .inr (2, [.int (iI m), .int (iI ((N : Nat) : Int)), .ref (ns 0), .ref (ns (N - 1))]))] 0 0 47 [some (.ref a), some (.int (iI x)), some (.ref (ns p)), some (.int (iI (p : Int)))] [] := by
    intro j
    induction j with
    | zero =>
      intro p hp hq
      refine l_run X 2 (pc1 := 49) (ls1 := [_, _, _, _]) (st1 := [_, _]) rfl ?_
      refine l_br X (pc1 := 63) (st1 := []) rfl (fun b9 => ?_) (fun b9 => ?_)
      · have c49 : (p : Int) ≤ x := cLe b9 (by omega) (by omega)
        refine l_run X 1 (pc1 := 64) (ls1 := [_, _, _, _]) (st1 := [_]) rfl ?_
        have e9 : p = x.toNat := by omega
        subst e9
        exact l_aret X hQ rfl rfl (by first | exact Or.inl ⟨_, rfl⟩ | exact Or.inr ⟨_, rfl⟩) (Or.inr ⟨_, rfl⟩) (Nat.le_of_ble_eq_true rfl) (Nat.le_of_ble_eq_true rfl) ⟨rfl, rfl⟩
      · have c49 : x < (p : Int) := cNe b9 (by omega) (by omega)
        exact absurd c49 (by omega)
    | succ j ih =>
      intro p hp hq
      obtain ⟨p, rfl⟩ : ∃ q, p = q + 1 := ⟨p - 1, by omega⟩
      refine l_run X 2 (pc1 := 49) (ls1 := [_, _, _, _]) (st1 := [_, _]) rfl ?_
      refine l_br X (pc1 := 63) (st1 := []) rfl (fun b9 => ?_) (fun b9 => ?_)
      · have c49 : ((p + 1 : Nat) : Int) ≤ x := cLe b9 (by omega) (by omega)
        exact absurd c49 (by omega)
      · have c49 : x < ((p + 1 : Nat) : Int) := cNe b9 (by omega) (by omega)
        refine l_run X 1 (pc1 := 53) (ls1 := [_, _, _, _]) (st1 := [_]) rfl ?_
        refine l_getK X (v := .ref (ns p)) rfl fJ7_30 (fun M h => h (p + 1) (by omega) (by omega)) (by show some (gPv ns (p + 1)) = _; rw [gPv_1 (by omega)]; rfl) ?_
        refine l_run X 3 (pc1 := 47) (ls1 := [_, _, _, _]) (st1 := []) rfl ?_
        refine l_eq (ls' := [some (.ref a), some (.int (iI x)), some (.ref (ns p)), some (.int (iI (((p + 1 : Nat) : Int) + (-1))))]) (st' := []) (by simp only [iI_add, iI_sub, iI_mul, iI_neg]) (by simp only [iI_add, iI_sub, iI_mul, iI_neg]) ?_
        refine l_eq (ls' := [some (.ref a), some (.int (iI x)), some (.ref (ns p)), some (.int (iI (p : Int)))]) (st' := []) (by rw [show ((p + 1 : Nat) : Int) + (-1) = (p : Int) by omega]) rfl ?_
        exact ih p (by omega) (by omega)
  refine l_eq (ls' := [some (.ref a), some (.int (iI x)), none, none]) (st' := []) rfl rfl ?_
  refine l_run X 2 (pc1 := 2) (ls1 := [_, _, _, _]) (st1 := [_, _]) rfl ?_
  refine l_get X 0 rfl fJ7_7 rfl rfl ?_
  refine l_run X 1 (pc1 := 6) (ls1 := [_, _, _, _]) (st1 := [_, _, _]) rfl ?_
  refine l_run X 1 (pc1 := 7) (ls1 := [_, _, _, _]) (st1 := [_, _]) rfl ?_
  refine l_eq (ls' := [some (.ref a), some (.int (iI x)), none, none]) (st' := [.int (iI ((((N : Nat) : Int)) / 2)), .int (iI x)]) rfl (by rw [shr1 (by omega)]) ?_
  refine l_br X (pc1 := 35) (st1 := []) rfl (fun b9 => ?_) (fun b9 => ?_)
  · have c7 : ((((N : Nat) : Int)) / 2) ≤ x := cLe b9 (by omega) (by omega)
    refine l_run X 1 (pc1 := 36) (ls1 := [_, _, _, _]) (st1 := [_]) rfl ?_
    refine l_get X 0 rfl fJ7_27 rfl rfl ?_
    refine l_run X 2 (pc1 := 41) (ls1 := [_, _, _, _]) (st1 := [_]) rfl ?_
    refine l_get X 0 rfl fJ7_7 rfl rfl ?_
    refine l_run X 3 (pc1 := 47) (ls1 := [_, _, _, _]) (st1 := []) rfl ?_
    refine l_eq (ls' := [some (.ref a), some (.int (iI x)), some (.ref (ns (N - 1))), some (.int (iI (((N : Nat) : Int) - 1)))]) (st' := []) (by simp only [iI_add, iI_sub, iI_mul, iI_neg]) (by simp only [iI_add, iI_sub, iI_mul, iI_neg]) ?_
    refine l_eq (ls' := [some (.ref a), some (.int (iI x)), some (.ref (ns (N - 1))), some (.int (iI ((N - 1 : Nat) : Int)))]) (st' := []) (by rw [show ((N : Nat) : Int) - 1 = ((N - 1 : Nat) : Int) by omega]) rfl ?_
    exact loop2 (N - 1 - x.toNat) (N - 1) (by omega) (by omega)
  · have c7 : x < ((((N : Nat) : Int)) / 2) := cNe b9 (by omega) (by omega)
    refine l_run X 1 (pc1 := 11) (ls1 := [_, _, _, _]) (st1 := [_]) rfl ?_
    refine l_get X 0 rfl fJ7_18 rfl rfl ?_
    refine l_run X 3 (pc1 := 17) (ls1 := [_, _, _, _]) (st1 := []) rfl ?_
    exact loop1 x.toNat 0 (by omega)
set_option maxHeartbeats 1000000 in
theorem jc_get (l : Launch) (EV : gEV) {a li N : Nat} (hN : N ≤ 6) {ns f : Nat → Nat} {t : gTag} {m : Int} {x : Int} (hx : 0 ≤ x ∧ x < N) : JC l yJ7_get cJ7_get 2 (some (.object "java/lang/Object")) 3 0 0 EV (kNs li 0 N N ns f) tF [.ref a, .int (iI x)] [(a, t, .inr (2, [.int (iI m), .int (iI ((N : Nat) : Int)), .ref (ns 0), .ref (ns (N - 1))]))] (jP (some (.ref (f x.toNat))) [(a, t, .inr (2, [.int (iI m), .int (iI ((N : Nat) : Int)), .ref (ns 0), .ref (ns (N - 1))]))]) := by
  refine l_body tbJ7_get tkJ7_get (by decide) (by intro v hv; simp only [List.mem_cons, List.not_mem_nil, or_false] at hv; rcases hv with rfl | rfl <;> rfl) (Nat.le_of_ble_eq_true rfl) (fun M0 z Q X hl hR hQ => ?_)
  subst hl
  refine l_eq (ls' := [some (.ref a), some (.int (iI x))]) (st' := []) rfl rfl ?_
  refine l_run X 2 (pc1 := 2) (ls1 := [_, _]) (st1 := [_, _]) rfl ?_
  refine l_callV X (kNs_T (fun _ _ _ h => h)) [0] [] 0 rfl mJ7_90 (jc_chkElem z.2.1 EV (by omega) (by omega)) rfl (fun _ _ _ => trivial) rfl rfl (fun _ h => h.elim) (fun _ _ h => h) rfl rfl (Nat.le_of_ble_eq_true rfl) (gFit.of hR (Nat.le_of_ble_eq_true rfl) (Nat.le_of_ble_eq_true rfl) (Nat.le_of_ble_eq_true rfl)) (fun v9 L9 h9 => ?_)
  obtain ⟨rfl, rfl⟩ := h9
  refine l_eq (st' := []) rfl rfl ?_
  refine l_L (L' := [(a, t, .inr (2, [.int (iI m), .int (iI ((N : Nat) : Int)), .ref (ns 0), .ref (ns (N - 1))]))]) rfl ?_
  refine l_run X 2 (pc1 := 7) (ls1 := [_, _]) (st1 := [_, _]) rfl ?_
  refine l_callVW X (kNs_T (fun _ _ _ h => h)) [0] [] 0 rfl mJ7_86 (jc_node z.2.1 EV (li := li) (f := f) hN (x := x) (by omega)) rfl (fun _ h _ => h) rfl rfl (fun _ h => h.elim) (fun _ _ h => h) rfl rfl (Nat.le_of_ble_eq_true rfl) (gFit.of hR (Nat.le_of_ble_eq_true rfl) (Nat.le_of_ble_eq_true rfl) (Nat.le_of_ble_eq_true rfl)) (fun v9 L9 h9 => ?_)
  obtain ⟨rfl, rfl⟩ := h9
  refine l_eq (st' := [.ref (ns x.toNat)]) rfl rfl ?_
  refine l_L (L' := [(a, t, .inr (2, [.int (iI m), .int (iI ((N : Nat) : Int)), .ref (ns 0), .ref (ns (N - 1))]))]) rfl ?_
  refine l_getK X (v := .ref (f x.toNat)) rfl fJ7_39 (fun M h => h (x.toNat) (by omega) (by omega)) rfl ?_
  exact l_aret X hQ rfl rfl (by first | exact Or.inl ⟨_, rfl⟩ | exact Or.inr ⟨_, rfl⟩) (Or.inr ⟨_, rfl⟩) (Nat.le_of_ble_eq_true rfl) (Nat.le_of_ble_eq_true rfl) ⟨rfl, rfl⟩
