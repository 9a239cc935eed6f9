/-! THE JDK's lists, walked over local pictures: ArrayDeque -/
set_option maxHeartbeats 1000000 in
theorem jc_dq_init (l : Launch) (EV : gEV) {a : Nat} {t w : gTag} (htw : t ≠ w) : JC l yJ30_init cJ30_init 1 none 2 1 17 EV kT (tO t) [.ref a] [(a, t, .inr (10, [.null, .int (iI 0), .int (iI 0)]))] (fun v9 L9 => ∃ q : Nat, v9 = none ∧ L9 = [(a, t, .inr (10, [.ref q, .int (iI 0), .int (iI 0)])), (q, w, .inl (EV.2.1 2, 17, .inr (.inr (.inr (.inr (fun _ => none))))))]) := by
  refine l_body tbJ30_init tkJ30_init (by decide) (by intro v hv; simp only [List.mem_cons, List.not_mem_nil, or_false] at hv; rcases hv with rfl <;> rfl) (Nat.le_of_ble_eq_true rfl) (fun M0 z Q X hl hR hQ => ?_)
  subst hl
  refine l_eq (ls' := [some (.ref a)]) (st' := []) rfl rfl ?_
  refine l_run X 1 (pc1 := 1) (ls1 := [_]) (st1 := [_]) rfl ?_
  refine l_callI X gKt [] [0] rfl mJ30_42 (jc_J0_init z.2.1 EV (b := a)) (fun _ _ _ => trivial) rfl rfl (fun _ h => h.elim) (fun _ _ h => h) rfl rfl (Nat.le_of_ble_eq_true rfl) (gFit.of hR (Nat.le_of_ble_eq_true rfl) (Nat.le_of_ble_eq_true rfl) (Nat.le_of_ble_eq_true rfl)) (fun v9 L9 h9 => ?_)
  obtain ⟨rfl, rfl⟩ := h9
  refine l_eq (st' := []) rfl rfl ?_
  refine l_L (L' := [(a, t, .inr (10, [.null, .int (iI 0), .int (iI 0)]))]) rfl ?_
  refine l_run X 2 (pc1 := 7) (ls1 := [_]) (st1 := [_, _]) rfl ?_
  refine l_newq X gKt w 2 (N := 17) rfl q1393 (by decide) rfl (by decide) (by decide) (by omega) (rc hR (by omega)) (rs hR (by omega)) (fun q1 => ?_)
  refine l_L (L' := [(a, t, .inr (10, [.null, .int (iI 0), .int (iI 0)])), (q1, w, .inl (EV.2.1 2, 17, .inr (.inr (.inr (.inr (fun _ => none))))))]) rfl ?_
  refine l_put X gKt 0 rfl fJ30_3 rfl (gDp2 htw) (rfl) rfl rfl (Nat.le_of_ble_eq_true rfl) (L' := [(a, t, .inr (10, [.ref q1, .int (iI 0), .int (iI 0)])), (q1, w, .inl (EV.2.1 2, 17, .inr (.inr (.inr (.inr (fun _ => none))))))]) rfl ?_
  exact l_vret X hQ rfl rfl (Nat.le_of_ble_eq_true rfl) (Nat.le_of_ble_eq_true rfl) ⟨q1, rfl, rfl⟩
set_option maxHeartbeats 1000000 in
theorem jc_dq_sub (l : Launch) (EV : gEV) {x y n : Int} (hx : 0 ≤ x ∧ x ≤ 1000) (hy : 0 ≤ y ∧ y ≤ 1000) (hn : 0 ≤ n ∧ n ≤ 1000) : JC l yJ30_sub cJ30_sub 3 (some .int) 1 0 0 EV kT tF [.int (iI x), .int (iI y), .int (iI n)] [] (jP (some (.int (iI (if 0 ≤ x - y then x - y else x - y + n)))) []) := by
  refine l_body tbJ30_sub tkJ30_sub (by decide) (by intro v hv; simp only [List.mem_cons, List.not_mem_nil, or_false] at hv; rcases hv with rfl | rfl | rfl <;> rfl) (Nat.le_of_ble_eq_true rfl) (fun M0 z Q X hl hR hQ => ?_)
  subst hl
  refine l_eq (ls' := [some (.int (iI x)), some (.int (iI y)), some (.int (iI n))]) (st' := []) rfl rfl ?_
  refine l_run X 5 (pc1 := 5) (ls1 := [_, _, _]) (st1 := [_]) rfl ?_
  refine l_eq (ls' := [some (.int (iI (x - y))), some (.int (iI y)), some (.int (iI n))]) (st' := [.int (iI (x - y))]) (by simp only [iI_add, iI_sub, iI_mul, iI_neg]) (by simp only [iI_add, iI_sub, iI_mul, iI_neg]) ?_
  refine l_br X (pc1 := 12) (st1 := []) rfl (fun b9 => ?_) (fun b9 => ?_)
  · have c5 : 0 ≤ (x - y) := cLe b9 (by omega) (by omega)
    refine l_run X 1 (pc1 := 13) (ls1 := [_, _, _]) (st1 := [_]) rfl ?_
    exact l_iret X hQ rfl rfl (Nat.le_refl _) (Nat.le_refl _) ⟨by first | rw [if_pos (by omega)] | rw [if_neg (by omega)], rfl⟩
  · have c5 : (x - y) < 0 := cNe b9 (by omega) (by omega)
    refine l_run X 5 (pc1 := 13) (ls1 := [_, _, _]) (st1 := [_]) rfl ?_
    refine l_eq (ls' := [some (.int (iI ((x - y) + n))), some (.int (iI y)), some (.int (iI n))]) (st' := [.int (iI ((x - y) + n))]) (by simp only [iI_add, iI_sub, iI_mul, iI_neg]) (by simp only [iI_add, iI_sub, iI_mul, iI_neg]) ?_
    exact l_iret X hQ rfl rfl (Nat.le_refl _) (Nat.le_refl _) ⟨by first | rw [if_pos (by omega)] | rw [if_neg (by omega)], rfl⟩
set_option maxHeartbeats 1000000 in
theorem jc_dq_size (l : Launch) (EV : gEV) {a d : Nat} {t w : gTag} {f : Nat → Option Nat} {h : Int} (hh : 0 ≤ h ∧ h < 17) : JC l yJ30_size cJ30_size 1 (some .int) 2 0 0 EV kT tF [.ref a] [(a, t, .inr (10, [.ref d, .int (iI h), .int (iI 0)])), (d, w, .inl (EV.2.1 2, 17, .inr (.inr (.inr (.inr (f))))))] (jP (some (.int (iI (if h = 0 then 0 else 17 - h)))) [(a, t, .inr (10, [.ref d, .int (iI h), .int (iI 0)])), (d, w, .inl (EV.2.1 2, 17, .inr (.inr (.inr (.inr (f))))))]) := by
  refine l_body tbJ30_size tkJ30_size (by decide) (by intro v hv; simp only [List.mem_cons, List.not_mem_nil, or_false] at hv; rcases hv with rfl <;> rfl) (Nat.le_of_ble_eq_true rfl) (fun M0 z Q X hl hR hQ => ?_)
  subst hl
  refine l_eq (ls' := [some (.ref a)]) (st' := []) rfl rfl ?_
  refine l_run X 1 (pc1 := 1) (ls1 := [_]) (st1 := [_]) rfl ?_
  refine l_get X 0 rfl fJ30_20 rfl rfl ?_
  refine l_run X 1 (pc1 := 5) (ls1 := [_]) (st1 := [_, _]) rfl ?_
  refine l_get X 0 rfl fJ30_24 rfl rfl ?_
  refine l_run X 1 (pc1 := 9) (ls1 := [_]) (st1 := [_, _, _]) rfl ?_
  refine l_get X 0 rfl fJ30_3 rfl rfl ?_
  refine l_alen X 1 2 rfl rfl rfl (v := iI 17) rfl ?_
  refine l_callS X gKt [] [0, 1] rfl mJ30_127 (jc_dq_sub z.2.1 EV (x := (0 : Int)) (y := h) (n := (17 : Int)) (by omega) (by omega) (by omega)) (fun _ _ _ => trivial) rfl rfl (fun _ h => h.elim) (fun _ _ h => h) rfl rfl (Nat.le_of_ble_eq_true rfl) (gFit.of hR (Nat.le_of_ble_eq_true rfl) (Nat.le_of_ble_eq_true rfl) (Nat.le_of_ble_eq_true rfl)) (fun v9 L9 h9 => ?_)
  obtain ⟨rfl, rfl⟩ := h9
  refine l_eq (st' := [.int (iI (if 0 ≤ (0 : Int) - h then (0 : Int) - h else (0 : Int) - h + (17 : Int)))]) rfl rfl ?_
  refine l_L (L' := [(a, t, .inr (10, [.ref d, .int (iI h), .int (iI 0)])), (d, w, .inl (EV.2.1 2, 17, .inr (.inr (.inr (.inr (f))))))]) rfl ?_
  exact l_iret X hQ rfl rfl (Nat.le_refl _) (Nat.le_refl _) ⟨by congr 3; split <;> split <;> omega, rfl⟩
set_option maxHeartbeats 1000000 in
theorem jc_dq_dec (l : Launch) (EV : gEV) {x n : Int} (hx : 0 ≤ x ∧ x ≤ 1000) (hn : 0 ≤ n ∧ n ≤ 1000) : JC l yJ30_dec cJ30_dec 2 (some .int) 1 0 0 EV kT tF [.int (iI x), .int (iI n)] [] (jP (some (.int (iI (if x = 0 then n - 1 else x - 1)))) []) := by
  refine l_body tbJ30_dec tkJ30_dec (by decide) (by intro v hv; simp only [List.mem_cons, List.not_mem_nil, or_false] at hv; rcases hv with rfl | rfl <;> rfl) (Nat.le_of_ble_eq_true rfl) (fun M0 z Q X hl hR hQ => ?_)
  subst hl
  refine l_eq (ls' := [some (.int (iI x)), some (.int (iI n))]) (st' := []) rfl rfl ?_
  refine l_run X 2 (pc1 := 4) (ls1 := [_, _]) (st1 := [_]) rfl ?_
  refine l_eq (ls' := [some (.int (iI (x + (-1)))), some (.int (iI n))]) (st' := [.int (iI (x + (-1)))]) (by simp only [iI_add, iI_sub, iI_mul, iI_neg]) (by simp only [iI_add, iI_sub, iI_mul, iI_neg]) ?_
  refine l_br X (pc1 := 11) (st1 := []) rfl (fun b9 => ?_) (fun b9 => ?_)
  · have c4 : 0 ≤ (x + (-1)) := cLe b9 (by omega) (by omega)
    refine l_run X 1 (pc1 := 12) (ls1 := [_, _]) (st1 := [_]) rfl ?_
    exact l_iret X hQ rfl rfl (Nat.le_refl _) (Nat.le_refl _) ⟨by first | (rw [if_pos (by omega)]; done) | (rw [if_neg (by omega)]; congr 3), rfl⟩
  · have c4 : (x + (-1)) < 0 := cNe b9 (by omega) (by omega)
    refine l_run X 5 (pc1 := 12) (ls1 := [_, _]) (st1 := [_]) rfl ?_
    refine l_eq (ls' := [some (.int (iI (n - 1))), some (.int (iI n))]) (st' := [.int (iI (n - 1))]) (by simp only [iI_add, iI_sub, iI_mul, iI_neg]) (by simp only [iI_add, iI_sub, iI_mul, iI_neg]) ?_
    exact l_iret X hQ rfl rfl (Nat.le_refl _) (Nat.le_refl _) ⟨by first | (rw [if_pos (by omega)]; done) | (rw [if_neg (by omega)]; congr 3), rfl⟩
set_option maxHeartbeats 1000000 in
theorem jc_dq_inc (l : Launch) (EV : gEV) {x n : Int} (hx : 0 ≤ x ∧ x ≤ 1000) (hn : 0 ≤ n ∧ n ≤ 1000) : JC l yJ30_inc cJ30_inc 2 (some .int) 1 0 0 EV kT tF [.int (iI x), .int (iI n)] [] (jP (some (.int (iI (if x + 1 < n then x + 1 else 0)))) []) := by
  refine l_body tbJ30_inc tkJ30_inc (by decide) (by intro v hv; simp only [List.mem_cons, List.not_mem_nil, or_false] at hv; rcases hv with rfl | rfl <;> rfl) (Nat.le_of_ble_eq_true rfl) (fun M0 z Q X hl hR hQ => ?_)
  subst hl
  refine l_eq (ls' := [some (.int (iI x)), some (.int (iI n))]) (st' := []) rfl rfl ?_
  refine l_run X 3 (pc1 := 5) (ls1 := [_, _]) (st1 := [_, _]) rfl ?_
  refine l_eq (ls' := [some (.int (iI (x + 1))), some (.int (iI n))]) (st' := [.int (iI n), .int (iI (x + 1))]) (by simp only [iI_add, iI_sub, iI_mul, iI_neg]) (by simp only [iI_add, iI_sub, iI_mul, iI_neg]) ?_
  refine l_br X (pc1 := 10) (st1 := []) rfl (fun b9 => ?_) (fun b9 => ?_)
  · have c5 : (x + 1) < n := cLt b9 (by omega) (by omega)
    refine l_run X 1 (pc1 := 11) (ls1 := [_, _]) (st1 := [_]) rfl ?_
    exact l_iret X hQ rfl rfl (Nat.le_refl _) (Nat.le_refl _) ⟨by first | rw [if_pos (by omega)] | rw [if_neg (by omega)], rfl⟩
  · have c5 : n ≤ (x + 1) := cNl b9 (by omega) (by omega)
    refine l_run X 3 (pc1 := 11) (ls1 := [_, _]) (st1 := [_]) rfl ?_
    exact l_iret X hQ rfl rfl (Nat.le_refl _) (Nat.le_refl _) ⟨by first | rw [if_pos (by omega)] | rw [if_neg (by omega)], rfl⟩
set_option maxHeartbeats 1000000 in
theorem jc_dq_add (l : Launch) (EV : gEV) {a d x : Nat} {t w : gTag} (htw : t ≠ w) (ht : 24 ≤ t.1) (hw : 24 ≤ w.1) {f : Nat → Option Nat} {h : Int} (hh : h = 0 ∨ 9 ≤ h ∧ h < 17) : JC l yJ30_addFirst cJ30_addFirst 3 none 2 0 0 EV (fun M => gOw M x) (tO2 t w) [.ref a, .ref x] [(a, t, .inr (10, [.ref d, .int (iI h), .int (iI 0)])), (d, w, .inl (EV.2.1 2, 17, .inr (.inr (.inr (.inr (f))))))] (jP none [(a, t, .inr (10, [.ref d, .int (iI (if h = 0 then (17 : Int) - 1 else h - 1)), .int (iI 0)])), (d, w, .inl (EV.2.1 2, 17, .inr (.inr (.inr (.inr (va_up (f) ((if h = 0 then (17 : Int) - 1 else h - 1).toNat) (some x)))))))]) := by
  refine l_body tbJ30_addFirst tkJ30_addFirst (by decide) (by intro v hv; simp only [List.mem_cons, List.not_mem_nil, or_false] at hv; rcases hv with rfl | rfl <;> rfl) (Nat.le_of_ble_eq_true rfl) (fun M0 z Q X hl hR hQ => ?_)
  subst hl
  have hK : gKT (fun M => gOw M x) (tO2 t w) := fun _ _ hF h9 => h9.fr hF (fun y hy => by rcases hy with hy | hy <;> rw [hy] <;> assumption)
  have hr : 0 < (if h = 0 then (17 : Int) - 1 else h - 1) ∧ (if h = 0 then (17 : Int) - 1 else h - 1) < 17 := by split <;> omega
  refine l_eq (ls' := [some (.ref a), some (.ref x), none]) (st' := []) rfl rfl ?_
  refine l_run X 3 (pc1 := 13) (ls1 := [_, _, _]) (st1 := [_]) rfl ?_
  refine l_get X 0 rfl fJ30_3 rfl rfl ?_
  refine l_run X 4 (pc1 := 20) (ls1 := [_, _, _]) (st1 := [_, _, _]) rfl ?_
  refine l_get X 0 rfl fJ30_24 rfl rfl ?_
  refine l_run X 1 (pc1 := 24) (ls1 := [_, _, _]) (st1 := [_, _, _, _]) rfl ?_
  refine l_alen X 1 2 rfl rfl rfl (v := iI 17) rfl ?_
  refine l_callS X hK [] [0, 1] rfl mJ30_68 (jc_dq_dec z.2.1 EV (x := h) (n := (17 : Int)) (by omega) (by omega)) (fun _ _ _ => trivial) rfl rfl (fun _ h => h.elim) (fun _ _ h => h) rfl rfl (Nat.le_of_ble_eq_true rfl) (gFit.of hR (Nat.le_of_ble_eq_true rfl) (Nat.le_of_ble_eq_true rfl) (Nat.le_of_ble_eq_true rfl)) (fun v9 L9 h9 => ?_)
  obtain ⟨rfl, rfl⟩ := h9
  refine l_eq (st' := [.int (iI (if h = 0 then (17 : Int) - 1 else h - 1)), .ref a, .ref d]) rfl rfl ?_
  refine l_L (L' := [(a, t, .inr (10, [.ref d, .int (iI h), .int (iI 0)])), (d, w, .inl (EV.2.1 2, 17, .inr (.inr (.inr (.inr (f))))))]) rfl ?_
  refine l_run X 1 (pc1 := 29) (ls1 := [_, _, _]) (st1 := [_, _, _, _]) rfl ?_
  refine l_put X hK 0 rfl fJ30_24 rfl (gDp2 htw) (Or.inl rfl) rfl rfl (Nat.le_of_ble_eq_true rfl) (L' := [(a, t, .inr (10, [.ref d, .int (iI (if h = 0 then (17 : Int) - 1 else h - 1)), .int (iI 0)])), (d, w, .inl (EV.2.1 2, 17, .inr (.inr (.inr (.inr (f))))))]) rfl ?_
  refine l_run X 1 (pc1 := 33) (ls1 := [_, _, _]) (st1 := [_, _, _]) rfl ?_
  refine l_aast X hK 1 rfl rfl (fun _ h9 _ => gOw.ob h9) (gDp2 htw) (Or.inr rfl) (gIx_i (by omega) (by omega)) (L' := [(a, t, .inr (10, [.ref d, .int (iI (if h = 0 then (17 : Int) - 1 else h - 1)), .int (iI 0)])), (d, w, .inl (EV.2.1 2, 17, .inr (.inr (.inr (.inr (va_up (f) ((if h = 0 then (17 : Int) - 1 else h - 1).toNat) (some x)))))))]) rfl ?_
  refine l_run X 1 (pc1 := 35) (ls1 := [_, _, _]) (st1 := [_]) rfl ?_
  refine l_get X 0 rfl fJ30_24 rfl rfl ?_
  refine l_run X 1 (pc1 := 39) (ls1 := [_, _, _]) (st1 := [_, _]) rfl ?_
  refine l_get X 0 rfl fJ30_20 rfl rfl ?_
  refine l_br X (pc1 := 50) (st1 := []) rfl (fun b9 => ?_) (fun b9 => ?_)
  · have c42 : ¬ (if h = 0 then (17 : Int) - 1 else h - 1) = 0 := cNq b9 (by omega) (by omega)
    exact l_vret X hQ rfl rfl (Nat.le_of_ble_eq_true rfl) (Nat.le_of_ble_eq_true rfl) ⟨rfl, rfl⟩
  · have c42 : (if h = 0 then (17 : Int) - 1 else h - 1) = 0 := cEq b9 (by omega) (by omega)
    exact absurd c42 (by omega)
set_option maxHeartbeats 1000000 in
theorem jc_dqi_init (l : Launch) (EV : gEV) {a d q : Nat} {t u w : gTag} (hut : u ≠ t) (huw : u ≠ w) (htw : t ≠ w) {f : Nat → Option Nat} {h : Int} (hh : 0 ≤ h ∧ h < 17) : JC l yJ31_init cJ31_init 2 none 3 0 0 EV kT (tO u) [.ref q, .ref a] [(q, u, .inr (11, [.int (iI 0), .int (iI 0), .int (iI 0), .null])), (a, t, .inr (10, [.ref d, .int (iI h), .int (iI 0)])), (d, w, .inl (EV.2.1 2, 17, .inr (.inr (.inr (.inr (f))))))] (jP none [(q, u, .inr (11, [.int (iI h), .int (iI (if h = 0 then 0 else 17 - h)), .int (iI (-1)), .ref a])), (a, t, .inr (10, [.ref d, .int (iI h), .int (iI 0)])), (d, w, .inl (EV.2.1 2, 17, .inr (.inr (.inr (.inr (f))))))]) := by
  refine l_body tbJ31_init tkJ31_init (by decide) (by intro v hv; simp only [List.mem_cons, List.not_mem_nil, or_false] at hv; rcases hv with rfl | rfl <;> rfl) (Nat.le_of_ble_eq_true rfl) (fun M0 z Q X hl hR hQ => ?_)
  subst hl
  refine l_eq (ls' := [some (.ref q), some (.ref a)]) (st' := []) rfl rfl ?_
  refine l_run X 2 (pc1 := 2) (ls1 := [_, _]) (st1 := [_, _]) rfl ?_
  refine l_putF X gKt 0 rfl rfl fJ31_1 rfl (by first | exact gDp3 hut huw htw | exact gDp3 htw hut.symm huw.symm) (rfl) rfl rfl (Nat.le_of_ble_eq_true rfl) (L' := [(q, u, .inr (11, [.int (iI 0), .int (iI 0), .int (iI 0), .ref a])), (a, t, .inr (10, [.ref d, .int (iI h), .int (iI 0)])), (d, w, .inl (EV.2.1 2, 17, .inr (.inr (.inr (.inr (f))))))]) rfl ?_
  refine l_run X 1 (pc1 := 6) (ls1 := [_, _]) (st1 := [_]) rfl ?_
  refine l_oinit X rfl q1455 ⟨by rw [hR]; exact Nat.le_of_ble_eq_true rfl, by rw [hR]; exact Nat.le_of_ble_eq_true rfl⟩ (Nat.le_of_ble_eq_true rfl) ?_
  refine l_run X 2 (pc1 := 11) (ls1 := [_, _]) (st1 := [_, _]) rfl ?_
  refine l_get X 0 rfl fJ31_1 rfl rfl ?_
  refine l_callV X gKt [1, 2] [0] 1 rfl mJ31_13 (jc_dq_size z.2.1 EV hh) rfl (fun _ _ _ => trivial) rfl rfl (fun _ h => h.elim) (fun _ _ h => h) rfl rfl (Nat.le_of_ble_eq_true rfl) (gFit.of hR (Nat.le_of_ble_eq_true rfl) (Nat.le_of_ble_eq_true rfl) (Nat.le_of_ble_eq_true rfl)) (fun v9 L9 h9 => ?_)
  obtain ⟨rfl, rfl⟩ := h9
  refine l_eq (st' := [.int (iI (if h = 0 then 0 else 17 - h)), .ref q]) rfl rfl ?_
  refine l_L (L' := [(a, t, .inr (10, [.ref d, .int (iI h), .int (iI 0)])), (d, w, .inl (EV.2.1 2, 17, .inr (.inr (.inr (.inr (f)))))), (q, u, .inr (11, [.int (iI 0), .int (iI 0), .int (iI 0), .ref a]))]) rfl ?_
  refine l_put X gKt 2 rfl fJ31_19 rfl (by first | exact gDp3 hut huw htw | exact gDp3 htw hut.symm huw.symm) (rfl) rfl rfl (Nat.le_of_ble_eq_true rfl) (L' := [(a, t, .inr (10, [.ref d, .int (iI h), .int (iI 0)])), (d, w, .inl (EV.2.1 2, 17, .inr (.inr (.inr (.inr (f)))))), (q, u, .inr (11, [.int (iI 0), .int (iI (if h = 0 then 0 else 17 - h)), .int (iI 0), .ref a]))]) rfl ?_
  refine l_run X 2 (pc1 := 22) (ls1 := [_, _]) (st1 := [_, _]) rfl ?_
  refine l_put X gKt 2 rfl fJ31_23 rfl (by first | exact gDp3 hut huw htw | exact gDp3 htw hut.symm huw.symm) (rfl) rfl rfl (Nat.le_of_ble_eq_true rfl) (L' := [(a, t, .inr (10, [.ref d, .int (iI h), .int (iI 0)])), (d, w, .inl (EV.2.1 2, 17, .inr (.inr (.inr (.inr (f)))))), (q, u, .inr (11, [.int (iI 0), .int (iI (if h = 0 then 0 else 17 - h)), .int (iI (-1)), .ref a]))]) rfl ?_
  refine l_run X 2 (pc1 := 27) (ls1 := [_, _]) (st1 := [_, _]) rfl ?_
  refine l_get X 0 rfl fJ31_26 rfl rfl ?_
  refine l_put X gKt 2 rfl fJ31_29 rfl (by first | exact gDp3 hut huw htw | exact gDp3 htw hut.symm huw.symm) (rfl) rfl rfl (Nat.le_of_ble_eq_true rfl) (L' := [(a, t, .inr (10, [.ref d, .int (iI h), .int (iI 0)])), (d, w, .inl (EV.2.1 2, 17, .inr (.inr (.inr (.inr (f)))))), (q, u, .inr (11, [.int (iI h), .int (iI (if h = 0 then 0 else 17 - h)), .int (iI (-1)), .ref a]))]) rfl ?_
  refine l_sub [2, 0, 1] (L' := [(q, u, .inr (11, [.int (iI h), .int (iI (if h = 0 then 0 else 17 - h)), .int (iI (-1)), .ref a])), (a, t, .inr (10, [.ref d, .int (iI h), .int (iI 0)])), (d, w, .inl (EV.2.1 2, 17, .inr (.inr (.inr (.inr (f))))))]) rfl ?_
  exact l_vret X hQ rfl rfl (Nat.le_of_ble_eq_true rfl) (Nat.le_of_ble_eq_true rfl) ⟨rfl, rfl⟩
set_option maxHeartbeats 1000000 in
theorem jc_dq_iter (l : Launch) (EV : gEV) {a d : Nat} {t : gTag} (u : gTag) {w : gTag} (hut : u ≠ t) (huw : u ≠ w) (htw : t ≠ w) {f : Nat → Option Nat} {h : Int} (hh : 0 ≤ h ∧ h < 17) : JC l yJ30_iterator cJ30_iterator 1 (some (.object "java/util/Iterator")) 4 1 4 EV kT (tO u) [.ref a] [(a, t, .inr (10, [.ref d, .int (iI h), .int (iI 0)])), (d, w, .inl (EV.2.1 2, 17, .inr (.inr (.inr (.inr (f))))))] (fun v9 L9 => ∃ q : Nat, v9 = some (.ref q) ∧ L9 = [(q, u, .inr (11, [.int (iI h), .int (iI (if h = 0 then 0 else 17 - h)), .int (iI (-1)), .ref a])), (a, t, .inr (10, [.ref d, .int (iI h), .int (iI 0)])), (d, w, .inl (EV.2.1 2, 17, .inr (.inr (.inr (.inr (f))))))]) := by
  refine l_body tbJ30_iterator tkJ30_iterator (by decide) (by intro v hv; simp only [List.mem_cons, List.not_mem_nil, or_false] at hv; rcases hv with rfl <;> rfl) (Nat.le_of_ble_eq_true rfl) (fun M0 z Q X hl hR hQ => ?_)
  subst hl
  refine l_eq (ls' := [some (.ref a)]) (st' := []) rfl rfl ?_
  refine l_new X gKt u rfl nJ30_131 (rc hR (Nat.le_of_ble_eq_true rfl)) (rs hR (Nat.le_of_ble_eq_true rfl)) (fun q1 => ?_)
  refine l_L (L' := [(a, t, .inr (10, [.ref d, .int (iI h), .int (iI 0)])), (d, w, .inl (EV.2.1 2, 17, .inr (.inr (.inr (.inr (f)))))), (q1, u, .inr (11, [.int (iI 0), .int (iI 0), .int (iI 0), .null]))]) rfl ?_
  refine l_run X 2 (pc1 := 5) (ls1 := [_]) (st1 := [_, _, _]) rfl ?_
  refine l_callI X gKt [2, 0, 1] [] rfl mJ30_133 (jc_dqi_init z.2.1 EV hut huw htw hh) (fun _ _ _ => trivial) rfl rfl (fun _ h9 => h9) (fun _ h9 => by cases h9) rfl rfl (Nat.le_of_ble_eq_true rfl) (gFit.of hR (Nat.le_of_ble_eq_true rfl) (Nat.le_of_ble_eq_true rfl) (Nat.le_of_ble_eq_true rfl)) (fun v9 L9 h9 => ?_)
  obtain ⟨rfl, rfl⟩ := h9
  refine l_eq (st' := [.ref q1]) rfl rfl ?_
  refine l_L (L' := [(q1, u, .inr (11, [.int (iI h), .int (iI (if h = 0 then 0 else 17 - h)), .int (iI (-1)), .ref a])), (a, t, .inr (10, [.ref d, .int (iI h), .int (iI 0)])), (d, w, .inl (EV.2.1 2, 17, .inr (.inr (.inr (.inr (f))))))]) rfl ?_
  exact l_aret X hQ rfl rfl (Or.inl ⟨_, rfl⟩) (Or.inr ⟨_, rfl⟩) (Nat.le_of_ble_eq_true rfl) (Nat.le_of_ble_eq_true rfl) ⟨q1, rfl, rfl⟩
set_option maxHeartbeats 1000000 in
theorem jc_dqi_has (l : Launch) (EV : gEV) {q : Nat} {u : gTag} {c0 : Int} (hc : inR c0) {w0 w1 w2 : Value} : JC l yJ31_hasNext cJ31_hasNext 1 (some .boolean) 1 0 0 EV kT tF [.ref q] [(q, u, .inr (11, [w0, .int (iI c0), w1, w2]))] (jP (some (.int (iI (bI (0 < c0))))) [(q, u, .inr (11, [w0, .int (iI c0), w1, w2]))]) := by
  refine l_body tbJ31_hasNext tkJ31_hasNext (by decide) (by intro v hv; simp only [List.mem_cons, List.not_mem_nil, or_false] at hv; rcases hv with rfl <;> rfl) (Nat.le_of_ble_eq_true rfl) (fun M0 z Q X hl hR hQ => ?_)
  subst hl
  refine l_eq (ls' := [some (.ref q)]) (st' := []) rfl rfl ?_
  refine l_run X 1 (pc1 := 1) (ls1 := [_]) (st1 := [_]) rfl ?_
  refine l_get X 0 rfl fJ31_19 rfl rfl ?_
  refine l_br X (pc1 := 11) (st1 := []) rfl (fun b9 => ?_) (fun b9 => ?_)
  · have c4 : c0 ≤ 0 := cLe b9 (by omega) (by omega)
    refine l_run X 1 (pc1 := 12) (ls1 := [_]) (st1 := [_]) rfl ?_
    exact l_zret X hQ rfl rfl rfl (Nat.le_refl _) (Nat.le_refl _) ⟨by rw [bI_0 (by omega)], rfl⟩
  · have c4 : 0 < c0 := cNe b9 (by omega) (by omega)
    refine l_run X 2 (pc1 := 12) (ls1 := [_]) (st1 := [_]) rfl ?_
    exact l_zret X hQ rfl rfl rfl (Nat.le_refl _) (Nat.le_refl _) ⟨by rw [bI_1 (by omega)], rfl⟩
set_option maxHeartbeats 1000000 in
theorem jc_dq_nn (l : Launch) (EV : gEV) {d y : Nat} {w : gTag} {f : Nat → Option Nat} {x : Int} (hx : 0 ≤ x ∧ x < 17) (hf : f x.toNat = some y) : JC l yJ30_nonNullElementAt cJ30_nonNullElementAt 3 (some (.object "java/lang/Object")) 1 0 0 EV kT tF [.ref d, .int (iI x)] [(d, w, .inl (EV.2.1 2, 17, .inr (.inr (.inr (.inr (f))))))] (jP (some (.ref y)) [(d, w, .inl (EV.2.1 2, 17, .inr (.inr (.inr (.inr (f))))))]) := by
  refine l_body tbJ30_nonNullElementAt tkJ30_nonNullElementAt (by decide) (by intro v hv; simp only [List.mem_cons, List.not_mem_nil, or_false] at hv; rcases hv with rfl | rfl <;> rfl) (Nat.le_of_ble_eq_true rfl) (fun M0 z Q X hl hR hQ => ?_)
  subst hl
  refine l_eq (ls' := [some (.ref d), some (.int (iI x)), none]) (st' := []) rfl rfl ?_
  refine l_run X 2 (pc1 := 2) (ls1 := [_, _, _]) (st1 := [_, _]) rfl ?_
  refine l_aald X 0 2 (v := .ref y) rfl rfl rfl (gIx_i (by omega) (by omega)) (by rw [hf]; rfl) ?_
  refine l_run X 4 (pc1 := 17) (ls1 := [_, _, _]) (st1 := [_]) rfl ?_
  exact l_aret X hQ rfl rfl (by first | exact Or.inl ⟨_, rfl⟩ | exact Or.inr ⟨_, rfl⟩) (Or.inr ⟨_, rfl⟩) (Nat.le_of_ble_eq_true rfl) (Nat.le_of_ble_eq_true rfl) ⟨rfl, rfl⟩
set_option maxHeartbeats 1000000 in
theorem jc_dqi_next (l : Launch) (EV : gEV) {a d q y : Nat} {t u w : gTag} (hut : u ≠ t) (huw : u ≠ w) (htw : t ≠ w) {f : Nat → Option Nat} {h c0 r0 : Int} (hc : 0 ≤ c0 ∧ c0 < 17) (hr : 0 < r0 ∧ r0 ≤ 100) (hf : f c0.toNat = some y) {w1 : Value} : JC l yJ31_next cJ31_next 3 (some (.object "java/lang/Object")) 2 0 0 EV kT (tO u) [.ref q] [(q, u, .inr (11, [.int (iI c0), .int (iI r0), w1, .ref a])), (a, t, .inr (10, [.ref d, .int (iI h), .int (iI 0)])), (d, w, .inl (EV.2.1 2, 17, .inr (.inr (.inr (.inr (f))))))] (jP (some (.ref y)) [(q, u, .inr (11, [.int (iI (if c0 + 1 < (17 : Int) then c0 + 1 else 0)), .int (iI (r0 - 1)), .int (iI c0), .ref a])), (a, t, .inr (10, [.ref d, .int (iI h), .int (iI 0)])), (d, w, .inl (EV.2.1 2, 17, .inr (.inr (.inr (.inr (f))))))]) := by
  refine l_body tbJ31_next tkJ31_next (by decide) (by intro v hv; simp only [List.mem_cons, List.not_mem_nil, or_false] at hv; rcases hv with rfl <;> rfl) (Nat.le_of_ble_eq_true rfl) (fun M0 z Q X hl hR hQ => ?_)
  subst hl
  refine l_eq (ls' := [some (.ref q), none, none]) (st' := []) rfl rfl ?_
  refine l_run X 1 (pc1 := 1) (ls1 := [_, _, _]) (st1 := [_]) rfl ?_
  refine l_get X 0 rfl fJ31_19 rfl rfl ?_
  refine l_br X (pc1 := 15) (st1 := []) rfl (fun b9 => ?_) (fun b9 => ?_)
  · have c4 : 0 < r0 := cLt b9 (by omega) (by omega)
    refine l_run X 1 (pc1 := 16) (ls1 := [_, _, _]) (st1 := [_]) rfl ?_
    refine l_get X 0 rfl fJ31_1 rfl rfl ?_
    refine l_get X 1 rfl fJ31_35 rfl rfl ?_
    refine l_run X 3 (pc1 := 25) (ls1 := [_, _, _]) (st1 := [_, _]) rfl ?_
    refine l_get X 0 rfl fJ31_29 rfl rfl ?_
    refine l_callS X gKt [2] [0, 1] rfl mJ31_39 (jc_dq_nn z.2.1 EV (x := c0) (by omega) hf) (fun _ _ _ => trivial) rfl rfl (fun _ h => h.elim) (fun _ _ h => h) rfl rfl (Nat.le_of_ble_eq_true rfl) (gFit.of hR (Nat.le_of_ble_eq_true rfl) (Nat.le_of_ble_eq_true rfl) (Nat.le_of_ble_eq_true rfl)) (fun v9 L9 h9 => ?_)
    obtain ⟨rfl, rfl⟩ := h9
    refine l_eq (st' := [.ref y]) rfl rfl ?_
    refine l_L (L' := [(d, w, .inl (EV.2.1 2, 17, .inr (.inr (.inr (.inr (f)))))), (q, u, .inr (11, [.int (iI c0), .int (iI r0), w1, .ref a])), (a, t, .inr (10, [.ref d, .int (iI h), .int (iI 0)]))]) rfl ?_
    refine l_run X 4 (pc1 := 35) (ls1 := [_, _, _]) (st1 := [_, _, _]) rfl ?_
    refine l_get X 1 rfl fJ31_29 rfl rfl ?_
    refine l_run X 1 (pc1 := 39) (ls1 := [_, _, _]) (st1 := [_, _, _, _]) rfl ?_
    refine l_put X gKt 1 rfl fJ31_23 rfl (by first | exact gDp3 hut huw htw | exact gDp3 huw.symm htw.symm hut | exact gDp3 htw.symm huw.symm hut.symm | exact gDp3 hut.symm htw huw) (rfl) rfl rfl (Nat.le_of_ble_eq_true rfl) (L' := [(d, w, .inl (EV.2.1 2, 17, .inr (.inr (.inr (.inr (f)))))), (q, u, .inr (11, [.int (iI c0), .int (iI r0), .int (iI c0), .ref a])), (a, t, .inr (10, [.ref d, .int (iI h), .int (iI 0)]))]) rfl ?_
    refine l_run X 1 (pc1 := 43) (ls1 := [_, _, _]) (st1 := [_, _, _]) rfl ?_
    refine l_alen X 0 2 rfl rfl rfl (v := iI 17) rfl ?_
    refine l_callS X gKt [] [0, 1, 2] rfl mJ31_43 (jc_dq_inc z.2.1 EV (x := c0) (n := (17 : Int)) (by omega) (by omega)) (fun _ _ _ => trivial) rfl rfl (fun _ h => h.elim) (fun _ _ h => h) rfl rfl (Nat.le_of_ble_eq_true rfl) (gFit.of hR (Nat.le_of_ble_eq_true rfl) (Nat.le_of_ble_eq_true rfl) (Nat.le_of_ble_eq_true rfl)) (fun v9 L9 h9 => ?_)
    obtain ⟨rfl, rfl⟩ := h9
    refine l_eq (st' := [.int (iI (if c0 + 1 < (17 : Int) then c0 + 1 else 0)), .ref q]) rfl rfl ?_
    refine l_L (L' := [(d, w, .inl (EV.2.1 2, 17, .inr (.inr (.inr (.inr (f)))))), (q, u, .inr (11, [.int (iI c0), .int (iI r0), .int (iI c0), .ref a])), (a, t, .inr (10, [.ref d, .int (iI h), .int (iI 0)]))]) rfl ?_
    refine l_put X gKt 1 rfl fJ31_29 rfl (by first | exact gDp3 hut huw htw | exact gDp3 huw.symm htw.symm hut | exact gDp3 htw.symm huw.symm hut.symm | exact gDp3 hut.symm htw huw) (rfl) rfl rfl (Nat.le_of_ble_eq_true rfl) (L' := [(d, w, .inl (EV.2.1 2, 17, .inr (.inr (.inr (.inr (f)))))), (q, u, .inr (11, [.int (iI (if c0 + 1 < (17 : Int) then c0 + 1 else 0)), .int (iI r0), .int (iI c0), .ref a])), (a, t, .inr (10, [.ref d, .int (iI h), .int (iI 0)]))]) rfl ?_
    refine l_run X 2 (pc1 := 52) (ls1 := [_, _, _]) (st1 := [_, _]) rfl ?_
    refine l_get X 1 rfl fJ31_19 rfl rfl ?_
    refine l_run X 2 (pc1 := 57) (ls1 := [_, _, _]) (st1 := [_, _]) rfl ?_
    refine l_eq (ls' := [some (.ref q), some (.ref d), some (.ref y)]) (st' := [.int (iI (r0 - 1)), .ref q]) (by simp only [iI_add, iI_sub, iI_mul, iI_neg]) (by simp only [iI_add, iI_sub, iI_mul, iI_neg]) ?_
    refine l_put X gKt 1 rfl fJ31_19 rfl (by first | exact gDp3 hut huw htw | exact gDp3 huw.symm htw.symm hut | exact gDp3 htw.symm huw.symm hut.symm | exact gDp3 hut.symm htw huw) (rfl) rfl rfl (Nat.le_of_ble_eq_true rfl) (L' := [(d, w, .inl (EV.2.1 2, 17, .inr (.inr (.inr (.inr (f)))))), (q, u, .inr (11, [.int (iI (if c0 + 1 < (17 : Int) then c0 + 1 else 0)), .int (iI (r0 - 1)), .int (iI c0), .ref a])), (a, t, .inr (10, [.ref d, .int (iI h), .int (iI 0)]))]) rfl ?_
    refine l_run X 1 (pc1 := 61) (ls1 := [_, _, _]) (st1 := [_]) rfl ?_
    refine l_sub [1, 2, 0] (L' := [(q, u, .inr (11, [.int (iI (if c0 + 1 < (17 : Int) then c0 + 1 else 0)), .int (iI (r0 - 1)), .int (iI c0), .ref a])), (a, t, .inr (10, [.ref d, .int (iI h), .int (iI 0)])), (d, w, .inl (EV.2.1 2, 17, .inr (.inr (.inr (.inr (f))))))]) rfl ?_
    exact l_aret X hQ rfl rfl (by first | exact Or.inl ⟨_, rfl⟩ | exact Or.inr ⟨_, rfl⟩) (Or.inr ⟨_, rfl⟩) (Nat.le_of_ble_eq_true rfl) (Nat.le_of_ble_eq_true rfl) ⟨rfl, rfl⟩
  · have c4 : r0 ≤ 0 := cNl b9 (by omega) (by omega)
    exact absurd c4 (by omega)
