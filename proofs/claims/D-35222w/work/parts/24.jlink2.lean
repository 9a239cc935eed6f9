/-! THE JDK's lists, walked over local pictures: LinkedList, its iterator, clear -/
def tLL (li : Nat) : gTag → Prop := fun t => t = (24, li) ∨ (t.1 = 25 ∧ t.2 / 8 = li)
theorem l_forget {z : gZ} {S : gS} {EV : gEV} {Q : State → Prop} {M0 : gM} {K : gM → Prop} {T : gTag → Prop} {L : gLL} {k n pc : Nat} {ls ls' : List (Option Value)} {st : List Value} (m : List Bool) (h : gMask m ls = ls') (kk : gLj z S EV Q K T M0 L k n pc ls' st) : gLj z S EV Q K T M0 L k n pc ls st :=
  fun M h1 h2 h3 => g_forget m h (kk M h1 h2 h3)
set_option maxHeartbeats 1000000 in
theorem jc_J39_initE (l : Launch) (EV : gEV) {a q : Nat} {t u : gTag} (htu : u ≠ t) {m : Int} : JC l yJ39_init cJ39_init 3 none 3 0 0 EV kT (tO u) [.ref q, .ref a, .int (iI 0)] [(q, u, .inr (17, [.null, .null, .int (iI 0), .int (iI 0), .null])), (a, t, .inr (2, [.int (iI m), .int (iI 0), .null, .null]))] (jP none [(q, u, .inr (17, [.null, .null, .int (iI 0), .int (iI m), .ref a])), (a, t, .inr (2, [.int (iI m), .int (iI 0), .null, .null]))]) := by
  refine l_body tbJ39_init tkJ39_init (by decide) (by intro v hv; simp only [List.mem_cons, List.not_mem_nil, or_false] at hv; rcases hv with rfl | rfl | rfl <;> rfl) (Nat.le_of_ble_eq_true rfl) (fun M0 z Q X hl hR hQ => ?_)
  subst hl
  refine l_eq (ls' := [some (.ref q), some (.ref a), some (.int (iI 0))]) (st' := []) rfl rfl ?_
  refine l_run X 2 (pc1 := 2) (ls1 := [_, _, _]) (st1 := [_, _]) rfl ?_
  refine l_putF X gKt 0 rfl rfl fJ39_1 rfl (gDp2 htu) (rfl) rfl rfl (Nat.le_of_ble_eq_true rfl) (L' := [(q, u, .inr (17, [.null, .null, .int (iI 0), .int (iI 0), .ref a])), (a, t, .inr (2, [.int (iI m), .int (iI 0), .null, .null]))]) rfl ?_
  refine l_run X 1 (pc1 := 6) (ls1 := [_, _, _]) (st1 := [_]) rfl ?_
  refine l_oinit X rfl q2206 ⟨by rw [hR]; exact Nat.le_of_ble_eq_true rfl, by rw [hR]; exact Nat.le_of_ble_eq_true rfl⟩ (Nat.le_of_ble_eq_true rfl) ?_
  refine l_run X 2 (pc1 := 11) (ls1 := [_, _, _]) (st1 := [_, _]) rfl ?_
  refine l_get X 0 rfl fJ39_1 rfl rfl ?_
  refine l_get X 1 rfl fJ39_13_2 rfl rfl ?_
  refine l_put X gKt 0 rfl fJ39_19 rfl (gDp2 htu) (rfl) rfl rfl (Nat.le_of_ble_eq_true rfl) (L' := [(q, u, .inr (17, [.null, .null, .int (iI 0), .int (iI m), .ref a])), (a, t, .inr (2, [.int (iI m), .int (iI 0), .null, .null]))]) rfl ?_
  refine l_run X 3 (pc1 := 23) (ls1 := [_, _, _]) (st1 := [_, _, _]) rfl ?_
  refine l_get X 1 rfl fJ39_22 rfl rfl ?_
  refine l_br X (pc1 := 33) (st1 := [_]) rfl (fun b9 => ?_) (fun b9 => ?_)
  · have c26 : ¬ (0 : Int) = (0 : Int) := cNq b9 (by omega) (by omega)
    exact absurd rfl c26
  · have c26 : (0 : Int) = (0 : Int) := cEq b9 (by omega) (by omega)
    refine l_run X 2 (pc1 := 38) (ls1 := [_, _, _]) (st1 := [_, _]) rfl ?_
    refine l_put X gKt 0 rfl fJ39_29 rfl (gDp2 htu) (rfl) rfl rfl (Nat.le_of_ble_eq_true rfl) (L' := [(q, u, .inr (17, [.null, .null, .int (iI 0), .int (iI m), .ref a])), (a, t, .inr (2, [.int (iI m), .int (iI 0), .null, .null]))]) rfl ?_
    refine l_run X 2 (pc1 := 43) (ls1 := [_, _, _]) (st1 := [_, _]) rfl ?_
    refine l_put X gKt 0 rfl fJ39_33 rfl (gDp2 htu) (rfl) rfl rfl (Nat.le_of_ble_eq_true rfl) (L' := [(q, u, .inr (17, [.null, .null, .int (iI 0), .int (iI m), .ref a])), (a, t, .inr (2, [.int (iI m), .int (iI 0), .null, .null]))]) rfl ?_
    exact l_vret X hQ rfl rfl (Nat.le_of_ble_eq_true rfl) (Nat.le_of_ble_eq_true rfl) ⟨rfl, rfl⟩
set_option maxHeartbeats 1000000 in
theorem jc_J39_initN (l : Launch) (EV : gEV) {a q li N : Nat} (hN : 0 < N ∧ N ≤ 6) {ns f : Nat → Nat} {t u : gTag} (htu : u ≠ t) (hu : ∀ p, p < N → u ≠ (25, 8 * li + p)) {m : Int} : JC l yJ39_init cJ39_init 3 none 3 0 0 EV (kNs li 0 N N ns f) (tO u) [.ref q, .ref a, .int (iI 0)] [(q, u, .inr (17, [.null, .null, .int (iI 0), .int (iI 0), .null])), (a, t, .inr (2, [.int (iI m), .int (iI ((N : Nat) : Int)), .ref (ns 0), .ref (ns (N - 1))]))] (jP none [(q, u, .inr (17, [.null, .ref (ns 0), .int (iI 0), .int (iI m), .ref a])), (a, t, .inr (2, [.int (iI m), .int (iI ((N : Nat) : Int)), .ref (ns 0), .ref (ns (N - 1))]))]) := by
  refine l_body tbJ39_init tkJ39_init (by decide) (by intro v hv; simp only [List.mem_cons, List.not_mem_nil, or_false] at hv; rcases hv with rfl | rfl | rfl <;> rfl) (Nat.le_of_ble_eq_true rfl) (fun M0 z Q X hl hR hQ => ?_)
  subst hl
  refine l_eq (ls' := [some (.ref q), some (.ref a), some (.int (iI 0))]) (st' := []) rfl rfl ?_
  refine l_run X 2 (pc1 := 2) (ls1 := [_, _, _]) (st1 := [_, _]) rfl ?_
  refine l_putF X (kNs_T (fun p h1 h2 h => hu p h2 (h.symm))) 0 rfl rfl fJ39_1 rfl (by first | exact gDp2 htu | exact gDp2 htu.symm) (rfl) rfl rfl (Nat.le_of_ble_eq_true rfl) (L' := [(q, u, .inr (17, [.null, .null, .int (iI 0), .int (iI 0), .ref a])), (a, t, .inr (2, [.int (iI m), .int (iI ((N : Nat) : Int)), .ref (ns 0), .ref (ns (N - 1))]))]) rfl ?_
  refine l_run X 1 (pc1 := 6) (ls1 := [_, _, _]) (st1 := [_]) rfl ?_
  refine l_oinit X rfl q2206 ⟨by rw [hR]; exact Nat.le_of_ble_eq_true rfl, by rw [hR]; exact Nat.le_of_ble_eq_true rfl⟩ (Nat.le_of_ble_eq_true rfl) ?_
  refine l_run X 2 (pc1 := 11) (ls1 := [_, _, _]) (st1 := [_, _]) rfl ?_
  refine l_get X 0 rfl fJ39_1 rfl rfl ?_
  refine l_get X 1 rfl fJ39_13_2 rfl rfl ?_
  refine l_putW X 0 (kNs_T (fun p h1 h2 h => hu p h2 (h.symm))) rfl fJ39_19 rfl (by first | exact gDp2 htu | exact gDp2 htu.symm) (rfl) rfl rfl (Nat.le_of_ble_eq_true rfl) (L' := [(q, u, .inr (17, [.null, .null, .int (iI 0), .int (iI m), .ref a])), (a, t, .inr (2, [.int (iI m), .int (iI ((N : Nat) : Int)), .ref (ns 0), .ref (ns (N - 1))]))]) rfl ?_
  refine l_run X 3 (pc1 := 23) (ls1 := [_, _, _]) (st1 := [_, _, _]) rfl ?_
  refine l_get X 1 rfl fJ39_22 rfl rfl ?_
  refine l_br X (pc1 := 33) (st1 := [_]) rfl (fun b9 => ?_) (fun b9 => ?_)
  · have c26 : ¬ 0 = ((N : Nat) : Int) := cNq b9 (by omega) (by omega)
    refine l_run X 2 (pc1 := 35) (ls1 := [_, _, _]) (st1 := [_, _, _]) rfl ?_
    refine l_callVW X (kNs_T (fun _ _ _ h => h)) [1] [0] 1 rfl mJ39_25 (jc_node z.2.1 EV (li := li) (f := f) hN.2 (x := 0) (by omega)) rfl (fun _ h _ => h) rfl rfl (fun _ h => h.elim) (fun _ _ h => h) rfl rfl (Nat.le_of_ble_eq_true rfl) (gFit.of hR (Nat.le_of_ble_eq_true rfl) (Nat.le_of_ble_eq_true rfl) (Nat.le_of_ble_eq_true rfl)) (fun v9 L9 h9 => ?_)
    obtain ⟨rfl, rfl⟩ := h9
    refine l_eq (st' := [.ref (ns 0), .ref q]) rfl rfl ?_
    refine l_L (L' := [(a, t, .inr (2, [.int (iI m), .int (iI ((N : Nat) : Int)), .ref (ns 0), .ref (ns (N - 1))])), (q, u, .inr (17, [.null, .null, .int (iI 0), .int (iI m), .ref a]))]) rfl ?_
    refine l_putW X 1 (kNs_T (fun p h1 h2 h => hu p h2 (h.symm))) rfl fJ39_29 rfl (by first | exact gDp2 htu | exact gDp2 htu.symm) (rfl) rfl rfl (Nat.le_of_ble_eq_true rfl) (L' := [(a, t, .inr (2, [.int (iI m), .int (iI ((N : Nat) : Int)), .ref (ns 0), .ref (ns (N - 1))])), (q, u, .inr (17, [.null, .ref (ns 0), .int (iI 0), .int (iI m), .ref a]))]) rfl ?_
    refine l_run X 2 (pc1 := 43) (ls1 := [_, _, _]) (st1 := [_, _]) rfl ?_
    refine l_putW X 1 (kNs_T (fun p h1 h2 h => hu p h2 (h.symm))) rfl fJ39_33 rfl (by first | exact gDp2 htu | exact gDp2 htu.symm) (rfl) rfl rfl (Nat.le_of_ble_eq_true rfl) (L' := [(a, t, .inr (2, [.int (iI m), .int (iI ((N : Nat) : Int)), .ref (ns 0), .ref (ns (N - 1))])), (q, u, .inr (17, [.null, .ref (ns 0), .int (iI 0), .int (iI m), .ref a]))]) rfl ?_
    refine l_sub [1, 0] (L' := [(q, u, .inr (17, [.null, .ref (ns 0), .int (iI 0), .int (iI m), .ref a])), (a, t, .inr (2, [.int (iI m), .int (iI ((N : Nat) : Int)), .ref (ns 0), .ref (ns (N - 1))]))]) rfl ?_
    exact l_vret X hQ rfl rfl (Nat.le_of_ble_eq_true rfl) (Nat.le_of_ble_eq_true rfl) ⟨rfl, rfl⟩
  · have c26 : 0 = ((N : Nat) : Int) := cEq b9 (by omega) (by omega)
    exact absurd c26 (by omega)
set_option maxHeartbeats 1000000 in
theorem jc_listItrE (l : Launch) (EV : gEV) {a : Nat} {t : gTag} (u : gTag) (htu : u ≠ t) {m : Int} : JC l yJ7_listIterator cJ7_listIterator 2 (some (.object "java/util/ListIterator")) 4 1 5 EV kT (tO u) [.ref a, .int (iI 0)] [(a, t, .inr (2, [.int (iI m), .int (iI 0), .null, .null]))] (fun w L9 => ∃ q : Nat, w = some (.ref q) ∧ L9 = [(q, u, .inr (17, [.null, .null, .int (iI 0), .int (iI m), .ref a])), (a, t, .inr (2, [.int (iI m), .int (iI 0), .null, .null]))]) := by
  refine l_body tbJ7_listIterator tkJ7_listIterator (by decide) (by intro v hv; simp only [List.mem_cons, List.not_mem_nil, or_false] at hv; rcases hv with rfl | rfl <;> rfl) (Nat.le_of_ble_eq_true rfl) (fun M0 z Q X hl hR hQ => ?_)
  subst hl
  refine l_eq (ls' := [some (.ref a), some (.int (iI 0))]) (st' := []) rfl rfl ?_
  refine l_run X 2 (pc1 := 2) (ls1 := [_, _]) (st1 := [_, _]) rfl ?_
  refine l_callV X gKt [0] [] 0 rfl mJ7_76 (jc_chkPos z.2.1 EV (x := 0) (by omega) (by omega)) rfl (fun _ _ _ => trivial) rfl rfl (fun _ h => h.elim) (fun _ _ h => h) rfl rfl (Nat.le_of_ble_eq_true rfl) (gFit.of hR (Nat.le_of_ble_eq_true rfl) (Nat.le_of_ble_eq_true rfl) (Nat.le_of_ble_eq_true rfl)) (fun v9 L9 h9 => ?_)
  obtain ⟨rfl, rfl⟩ := h9
  refine l_eq (st' := []) rfl rfl ?_
  refine l_L (L' := [(a, t, .inr (2, [.int (iI m), .int (iI 0), .null, .null]))]) rfl ?_
  refine l_new X gKt u rfl nJ7_150 (rc hR (Nat.le_of_ble_eq_true rfl)) (rs hR (Nat.le_of_ble_eq_true rfl)) (fun q1 => ?_)
  refine l_L (L' := [(a, t, .inr (2, [.int (iI m), .int (iI 0), .null, .null])), (q1, u, .inr (17, [.null, .null, .int (iI 0), .int (iI 0), .null]))]) rfl ?_
  refine l_run X 3 (pc1 := 11) (ls1 := [_, _]) (st1 := [_, _, _, _]) rfl ?_
  refine l_callI X gKt [1, 0] [] rfl mJ7_152 (jc_J39_initE z.2.1 EV htu) (fun _ _ _ => trivial) rfl rfl (fun _ h => h) (fun _ h => by cases h) rfl rfl (Nat.le_of_ble_eq_true rfl) (gFit.of hR (Nat.le_of_ble_eq_true rfl) (Nat.le_of_ble_eq_true rfl) (Nat.le_of_ble_eq_true rfl)) (fun v9 L9 h9 => ?_)
  obtain ⟨rfl, rfl⟩ := h9
  refine l_eq (st' := [.ref q1]) rfl rfl ?_
  refine l_L (L' := [(q1, u, .inr (17, [.null, .null, .int (iI 0), .int (iI m), .ref a])), (a, t, .inr (2, [.int (iI m), .int (iI 0), .null, .null]))]) rfl ?_
  exact l_aret X hQ rfl rfl (Or.inl ⟨_, rfl⟩) (Or.inr ⟨_, rfl⟩) (Nat.le_of_ble_eq_true rfl) (Nat.le_of_ble_eq_true rfl) ⟨q1, rfl, rfl⟩
set_option maxHeartbeats 1000000 in
theorem jc_listItrN (l : Launch) (EV : gEV) {a li N : Nat} (hN : 0 < N ∧ N ≤ 6) {ns f : Nat → Nat} {t : gTag} (u : gTag) (htu : u ≠ t) (hu : ∀ p, p < N → u ≠ (25, 8 * li + p)) {m : Int} : JC l yJ7_listIterator cJ7_listIterator 2 (some (.object "java/util/ListIterator")) 4 1 5 EV (kNs li 0 N N ns f) (tO u) [.ref a, .int (iI 0)] [(a, t, .inr (2, [.int (iI m), .int (iI ((N : Nat) : Int)), .ref (ns 0), .ref (ns (N - 1))]))] (fun w L9 => ∃ q : Nat, w = some (.ref q) ∧ L9 = [(q, u, .inr (17, [.null, .ref (ns 0), .int (iI 0), .int (iI m), .ref a])), (a, t, .inr (2, [.int (iI m), .int (iI ((N : Nat) : Int)), .ref (ns 0), .ref (ns (N - 1))]))]) := by
  refine l_body tbJ7_listIterator tkJ7_listIterator (by decide) (by intro v hv; simp only [List.mem_cons, List.not_mem_nil, or_false] at hv; rcases hv with rfl | rfl <;> rfl) (Nat.le_of_ble_eq_true rfl) (fun M0 z Q X hl hR hQ => ?_)
  subst hl
  refine l_eq (ls' := [some (.ref a), some (.int (iI 0))]) (st' := []) rfl rfl ?_
  refine l_run X 2 (pc1 := 2) (ls1 := [_, _]) (st1 := [_, _]) rfl ?_
  refine l_callVW X (kNs_T (fun _ _ _ h => h)) [0] [] 0 rfl mJ7_76 (jc_chkPos z.2.1 EV (x := 0) (by omega) (by omega)) rfl (fun _ _ _ => trivial) rfl rfl (fun _ h => h.elim) (fun _ _ h => h) rfl rfl (Nat.le_of_ble_eq_true rfl) (gFit.of hR (Nat.le_of_ble_eq_true rfl) (Nat.le_of_ble_eq_true rfl) (Nat.le_of_ble_eq_true rfl)) (fun v9 L9 h9 => ?_)
  obtain ⟨rfl, rfl⟩ := h9
  refine l_eq (st' := []) rfl rfl ?_
  refine l_L (L' := [(a, t, .inr (2, [.int (iI m), .int (iI ((N : Nat) : Int)), .ref (ns 0), .ref (ns (N - 1))]))]) rfl ?_
  refine l_newW X u (kNs_T (fun p h1 h2 h => hu p h2 (h.symm))) rfl nJ7_150 (rc hR (Nat.le_of_ble_eq_true rfl)) (rs hR (Nat.le_of_ble_eq_true rfl)) (fun q1 => ?_)
  refine l_L (L' := [(a, t, .inr (2, [.int (iI m), .int (iI ((N : Nat) : Int)), .ref (ns 0), .ref (ns (N - 1))])), (q1, u, .inr (17, [.null, .null, .int (iI 0), .int (iI 0), .null]))]) rfl ?_
  refine l_run X 3 (pc1 := 11) (ls1 := [_, _]) (st1 := [_, _, _, _]) rfl ?_
  refine l_callIW X ((kNs_T (fun p h1 h2 h => hu p h2 (h.symm)))) [1, 0] [] rfl mJ7_152 (jc_J39_initN z.2.1 EV hN (f := f) htu hu) (fun _ h _ => h) rfl rfl (fun _ h => h) (fun _ h => by cases h) rfl rfl (Nat.le_of_ble_eq_true rfl) (gFit.of hR (Nat.le_of_ble_eq_true rfl) (Nat.le_of_ble_eq_true rfl) (Nat.le_of_ble_eq_true rfl)) (fun v9 L9 h9 => ?_)
  obtain ⟨rfl, rfl⟩ := h9
  refine l_eq (st' := [.ref q1]) rfl rfl ?_
  refine l_L (L' := [(q1, u, .inr (17, [.null, .ref (ns 0), .int (iI 0), .int (iI m), .ref a])), (a, t, .inr (2, [.int (iI m), .int (iI ((N : Nat) : Int)), .ref (ns 0), .ref (ns (N - 1))]))]) rfl ?_
  exact l_aret X hQ rfl rfl (Or.inl ⟨_, rfl⟩) (Or.inr ⟨_, rfl⟩) (Nat.le_of_ble_eq_true rfl) (Nat.le_of_ble_eq_true rfl) ⟨q1, rfl, rfl⟩
set_option maxHeartbeats 1000000 in
theorem jc_listItr1E (l : Launch) (EV : gEV) {a : Nat} {t : gTag} (u : gTag) (htu : u ≠ t) {m : Int} : JC l yJ1_listIterator cJ1_listIterator 1 (some (.object "java/util/ListIterator")) 5 1 5 EV kT (tO u) [.ref a] [(a, t, .inr (2, [.int (iI m), .int (iI 0), .null, .null]))] (fun w L9 => ∃ q : Nat, w = some (.ref q) ∧ L9 = [(q, u, .inr (17, [.null, .null, .int (iI 0), .int (iI m), .ref a])), (a, t, .inr (2, [.int (iI m), .int (iI 0), .null, .null]))]) := by
  refine l_body tbJ1_listIterator tkJ1_listIterator (by decide) (by intro v hv; simp only [List.mem_cons, List.not_mem_nil, or_false] at hv; rcases hv with rfl <;> rfl) (Nat.le_of_ble_eq_true rfl) (fun M0 z Q X hl hR hQ => ?_)
  subst hl
  refine l_eq (ls' := [some (.ref a)]) (st' := []) rfl rfl ?_
  refine l_run X 2 (pc1 := 2) (ls1 := [_]) (st1 := [_, _]) rfl ?_
  refine l_callU X gKt [0] [] 0 rfl mJ1_47_2 (jc_listItrE z.2.1 EV u htu) rfl (fun _ _ _ => trivial) rfl rfl (fun _ h => h) (fun _ h => by cases h) rfl rfl (Nat.le_of_ble_eq_true rfl) (gFit.of hR (Nat.le_of_ble_eq_true rfl) (Nat.le_of_ble_eq_true rfl) (Nat.le_of_ble_eq_true rfl)) (fun v9 L9 h9 => ?_)
  obtain ⟨q1, rfl, rfl⟩ := h9
  refine l_eq (st' := [.ref q1]) rfl rfl ?_
  refine l_L (L' := [(q1, u, .inr (17, [.null, .null, .int (iI 0), .int (iI m), .ref a])), (a, t, .inr (2, [.int (iI m), .int (iI 0), .null, .null]))]) rfl ?_
  exact l_aret X hQ rfl rfl (Or.inl ⟨_, rfl⟩) (Or.inr ⟨_, rfl⟩) (Nat.le_of_ble_eq_true rfl) (Nat.le_of_ble_eq_true rfl) ⟨q1, rfl, rfl⟩
set_option maxHeartbeats 1000000 in
theorem jc_listItr1N (l : Launch) (EV : gEV) {a li N : Nat} (hN : 0 < N ∧ N ≤ 6) {ns f : Nat → Nat} {t : gTag} (u : gTag) (htu : u ≠ t) (hu : ∀ p, p < N → u ≠ (25, 8 * li + p)) {m : Int} : JC l yJ1_listIterator cJ1_listIterator 1 (some (.object "java/util/ListIterator")) 5 1 5 EV (kNs li 0 N N ns f) (tO u) [.ref a] [(a, t, .inr (2, [.int (iI m), .int (iI ((N : Nat) : Int)), .ref (ns 0), .ref (ns (N - 1))]))] (fun w L9 => ∃ q : Nat, w = some (.ref q) ∧ L9 = [(q, u, .inr (17, [.null, .ref (ns 0), .int (iI 0), .int (iI m), .ref a])), (a, t, .inr (2, [.int (iI m), .int (iI ((N : Nat) : Int)), .ref (ns 0), .ref (ns (N - 1))]))]) := by
  refine l_body tbJ1_listIterator tkJ1_listIterator (by decide) (by intro v hv; simp only [List.mem_cons, List.not_mem_nil, or_false] at hv; rcases hv with rfl <;> rfl) (Nat.le_of_ble_eq_true rfl) (fun M0 z Q X hl hR hQ => ?_)
  subst hl
  refine l_eq (ls' := [some (.ref a)]) (st' := []) rfl rfl ?_
  refine l_run X 2 (pc1 := 2) (ls1 := [_]) (st1 := [_, _]) rfl ?_
  refine l_callUW X ((kNs_T (fun p h1 h2 h => hu p h2 (h.symm)))) [0] [] 0 rfl mJ1_47_2 (jc_listItrN z.2.1 EV hN (f := f) u htu hu) rfl (fun _ h _ => h) rfl rfl (fun _ h => h) (fun _ h => by cases h) rfl rfl (Nat.le_of_ble_eq_true rfl) (gFit.of hR (Nat.le_of_ble_eq_true rfl) (Nat.le_of_ble_eq_true rfl) (Nat.le_of_ble_eq_true rfl)) (fun v9 L9 h9 => ?_)
  obtain ⟨q1, rfl, rfl⟩ := h9
  refine l_eq (st' := [.ref q1]) rfl rfl ?_
  refine l_L (L' := [(q1, u, .inr (17, [.null, .ref (ns 0), .int (iI 0), .int (iI m), .ref a])), (a, t, .inr (2, [.int (iI m), .int (iI ((N : Nat) : Int)), .ref (ns 0), .ref (ns (N - 1))]))]) rfl ?_
  exact l_aret X hQ rfl rfl (Or.inl ⟨_, rfl⟩) (Or.inr ⟨_, rfl⟩) (Nat.le_of_ble_eq_true rfl) (Nat.le_of_ble_eq_true rfl) ⟨q1, rfl, rfl⟩
set_option maxHeartbeats 1000000 in
theorem jc_iterE (l : Launch) (EV : gEV) {a : Nat} {t : gTag} (u : gTag) (htu : u ≠ t) {m : Int} : JC l yJ6_iterator cJ6_iterator 1 (some (.object "java/util/Iterator")) 6 1 5 EV kT (tO u) [.ref a] [(a, t, .inr (2, [.int (iI m), .int (iI 0), .null, .null]))] (fun w L9 => ∃ q : Nat, w = some (.ref q) ∧ L9 = [(q, u, .inr (17, [.null, .null, .int (iI 0), .int (iI m), .ref a])), (a, t, .inr (2, [.int (iI m), .int (iI 0), .null, .null]))]) := by
  refine l_body tbJ6_iterator tkJ6_iterator (by decide) (by intro v hv; simp only [List.mem_cons, List.not_mem_nil, or_false] at hv; rcases hv with rfl <;> rfl) (Nat.le_of_ble_eq_true rfl) (fun M0 z Q X hl hR hQ => ?_)
  subst hl
  refine l_eq (ls' := [some (.ref a)]) (st' := []) rfl rfl ?_
  refine l_run X 1 (pc1 := 1) (ls1 := [_]) (st1 := [_]) rfl ?_
  refine l_callU X gKt [0] [] 0 rfl mJ6_65_2 (jc_listItr1E z.2.1 EV u htu) rfl (fun _ _ _ => trivial) rfl rfl (fun _ h => h) (fun _ h => by cases h) rfl rfl (Nat.le_of_ble_eq_true rfl) (gFit.of hR (Nat.le_of_ble_eq_true rfl) (Nat.le_of_ble_eq_true rfl) (Nat.le_of_ble_eq_true rfl)) (fun v9 L9 h9 => ?_)
  obtain ⟨q1, rfl, rfl⟩ := h9
  refine l_eq (st' := [.ref q1]) rfl rfl ?_
  refine l_L (L' := [(q1, u, .inr (17, [.null, .null, .int (iI 0), .int (iI m), .ref a])), (a, t, .inr (2, [.int (iI m), .int (iI 0), .null, .null]))]) rfl ?_
  exact l_aret X hQ rfl rfl (Or.inl ⟨_, rfl⟩) (Or.inr ⟨_, rfl⟩) (Nat.le_of_ble_eq_true rfl) (Nat.le_of_ble_eq_true rfl) ⟨q1, rfl, rfl⟩
set_option maxHeartbeats 1000000 in
theorem jc_iterN (l : Launch) (EV : gEV) {a li N : Nat} (hN : 0 < N ∧ N ≤ 6) {ns f : Nat → Nat} {t : gTag} (u : gTag) (htu : u ≠ t) (hu : ∀ p, p < N → u ≠ (25, 8 * li + p)) {m : Int} : JC l yJ6_iterator cJ6_iterator 1 (some (.object "java/util/Iterator")) 6 1 5 EV (kNs li 0 N N ns f) (tO u) [.ref a] [(a, t, .inr (2, [.int (iI m), .int (iI ((N : Nat) : Int)), .ref (ns 0), .ref (ns (N - 1))]))] (fun w L9 => ∃ q : Nat, w = some (.ref q) ∧ L9 = [(q, u, .inr (17, [.null, .ref (ns 0), .int (iI 0), .int (iI m), .ref a])), (a, t, .inr (2, [.int (iI m), .int (iI ((N : Nat) : Int)), .ref (ns 0), .ref (ns (N - 1))]))]) := by
  refine l_body tbJ6_iterator tkJ6_iterator (by decide) (by intro v hv; simp only [List.mem_cons, List.not_mem_nil, or_false] at hv; rcases hv with rfl <;> rfl) (Nat.le_of_ble_eq_true rfl) (fun M0 z Q X hl hR hQ => ?_)
  subst hl
  refine l_eq (ls' := [some (.ref a)]) (st' := []) rfl rfl ?_
  refine l_run X 1 (pc1 := 1) (ls1 := [_]) (st1 := [_]) rfl ?_
  refine l_callUW X ((kNs_T (fun p h1 h2 h => hu p h2 (h.symm)))) [0] [] 0 rfl mJ6_65_2 (jc_listItr1N z.2.1 EV hN (f := f) u htu hu) rfl (fun _ h _ => h) rfl rfl (fun _ h => h) (fun _ h => by cases h) rfl rfl (Nat.le_of_ble_eq_true rfl) (gFit.of hR (Nat.le_of_ble_eq_true rfl) (Nat.le_of_ble_eq_true rfl) (Nat.le_of_ble_eq_true rfl)) (fun v9 L9 h9 => ?_)
  obtain ⟨q1, rfl, rfl⟩ := h9
  refine l_eq (st' := [.ref q1]) rfl rfl ?_
  refine l_L (L' := [(q1, u, .inr (17, [.null, .ref (ns 0), .int (iI 0), .int (iI m), .ref a])), (a, t, .inr (2, [.int (iI m), .int (iI ((N : Nat) : Int)), .ref (ns 0), .ref (ns (N - 1))]))]) rfl ?_
  exact l_aret X hQ rfl rfl (Or.inl ⟨_, rfl⟩) (Or.inr ⟨_, rfl⟩) (Nat.le_of_ble_eq_true rfl) (Nat.le_of_ble_eq_true rfl) ⟨q1, rfl, rfl⟩
set_option maxHeartbeats 1000000 in
theorem jc_J39_check (l : Launch) (EV : gEV) {a q : Nat} {t u : gTag} {c0 m s0 : Int} (hm : inR m) {w0 w1 v1 v2 : Value} : JC l yJ39_checkForComodification cJ39_checkForComodification 1 none 1 0 0 EV kT tF [.ref q] [(q, u, .inr (17, [w0, w1, .int (iI c0), .int (iI m), .ref a])), (a, t, .inr (2, [.int (iI m), .int (iI s0), v1, v2]))] (jP none [(q, u, .inr (17, [w0, w1, .int (iI c0), .int (iI m), .ref a])), (a, t, .inr (2, [.int (iI m), .int (iI s0), v1, v2]))]) := by
  refine l_body tbJ39_checkForComodification tkJ39_checkForComodification (by decide) (by intro v hv; simp only [List.mem_cons, List.not_mem_nil, or_false] at hv; rcases hv with rfl <;> rfl) (Nat.le_of_ble_eq_true rfl) (fun M0 z Q X hl hR hQ => ?_)
  subst hl
  refine l_eq (ls' := [some (.ref q)]) (st' := []) rfl rfl ?_
  refine l_run X 1 (pc1 := 1) (ls1 := [_]) (st1 := [_]) rfl ?_
  refine l_get X 0 rfl fJ39_1 rfl rfl ?_
  refine l_get X 1 rfl fJ39_13_2 rfl rfl ?_
  refine l_run X 1 (pc1 := 8) (ls1 := [_]) (st1 := [_, _]) rfl ?_
  refine l_get X 0 rfl fJ39_19 rfl rfl ?_
  refine l_br X (pc1 := 22) (st1 := []) rfl (fun b9 => ?_) (fun b9 => ?_)
  · have c11 : m = m := cEq b9 (by omega) (by omega)
    exact l_vret X hQ rfl rfl (Nat.le_of_ble_eq_true rfl) (Nat.le_of_ble_eq_true rfl) ⟨rfl, rfl⟩
  · have c11 : ¬ m = m := cNq b9 (by omega) (by omega)
    exact absurd rfl c11
set_option maxHeartbeats 1000000 in
theorem jc_J39_hasNext (l : Launch) (EV : gEV) {a q : Nat} {t u : gTag} {c0 m s0 : Int} (hc : inR c0) (hs : inR s0) {w0 w1 v1 v2 : Value} : JC l yJ39_hasNext cJ39_hasNext 1 (some .boolean) 1 0 0 EV kT tF [.ref q] [(q, u, .inr (17, [w0, w1, .int (iI c0), .int (iI m), .ref a])), (a, t, .inr (2, [.int (iI m), .int (iI s0), v1, v2]))] (jP (some (.int (iI (bI (c0 < s0))))) [(q, u, .inr (17, [w0, w1, .int (iI c0), .int (iI m), .ref a])), (a, t, .inr (2, [.int (iI m), .int (iI s0), v1, v2]))]) := by
  refine l_body tbJ39_hasNext tkJ39_hasNext (by decide) (by intro v hv; simp only [List.mem_cons, List.not_mem_nil, or_false] at hv; rcases hv with rfl <;> rfl) (Nat.le_of_ble_eq_true rfl) (fun M0 z Q X hl hR hQ => ?_)
  subst hl
  refine l_eq (ls' := [some (.ref q)]) (st' := []) rfl rfl ?_
  refine l_run X 1 (pc1 := 1) (ls1 := [_]) (st1 := [_]) rfl ?_
  refine l_get X 0 rfl fJ39_33 rfl rfl ?_
  refine l_run X 1 (pc1 := 5) (ls1 := [_]) (st1 := [_, _]) rfl ?_
  refine l_get X 0 rfl fJ39_1 rfl rfl ?_
  refine l_get X 1 rfl fJ39_22 rfl rfl ?_
  refine l_br X (pc1 := 18) (st1 := []) rfl (fun b9 => ?_) (fun b9 => ?_)
  · have c11 : s0 ≤ c0 := cLe b9 (by omega) (by omega)
    refine l_run X 1 (pc1 := 19) (ls1 := [_]) (st1 := [_]) rfl ?_
    exact l_zret X hQ rfl rfl rfl (Nat.le_refl _) (Nat.le_refl _) ⟨by rw [bI_0 (by omega)], rfl⟩
  · have c11 : c0 < s0 := cNe b9 (by omega) (by omega)
    refine l_run X 2 (pc1 := 19) (ls1 := [_]) (st1 := [_]) rfl ?_
    exact l_zret X hQ rfl rfl rfl (Nat.le_refl _) (Nat.le_refl _) ⟨by rw [bI_1 (by omega)], rfl⟩
set_option maxHeartbeats 1000000 in
theorem jc_J39_next (l : Launch) (EV : gEV) {a q li N p : Nat} (hp : p < N) (hN : N ≤ 6) {ns f : Nat → Nat} {t u : gTag} (htu : u ≠ t) (hu : ∀ p, p < N → u ≠ (25, 8 * li + p)) {m : Int} (hm : inR m) {w0 : Value} : JC l yJ39_next cJ39_next 1 (some (.object "java/lang/Object")) 2 0 0 EV (kNs li 0 N N ns f) (tO u) [.ref q] [(q, u, .inr (17, [w0, .ref (ns p), .int (iI ((p : Nat) : Int)), .int (iI m), .ref a])), (a, t, .inr (2, [.int (iI m), .int (iI ((N : Nat) : Int)), .ref (ns 0), .ref (ns (N - 1))]))] (jP (some (.ref (f p))) [(q, u, .inr (17, [.ref (ns p), gNx ns N p, .int (iI (((p : Nat) : Int) + 1)), .int (iI m), .ref a])), (a, t, .inr (2, [.int (iI m), .int (iI ((N : Nat) : Int)), .ref (ns 0), .ref (ns (N - 1))]))]) := by
  refine l_body tbJ39_next tkJ39_next (by decide) (by intro v hv; simp only [List.mem_cons, List.not_mem_nil, or_false] at hv; rcases hv with rfl <;> rfl) (Nat.le_of_ble_eq_true rfl) (fun M0 z Q X hl hR hQ => ?_)
  subst hl
  refine l_eq (ls' := [some (.ref q)]) (st' := []) rfl rfl ?_
  refine l_run X 1 (pc1 := 1) (ls1 := [_]) (st1 := [_]) rfl ?_
  refine l_callVW X (kNs_T (fun _ _ _ h => h)) [0, 1] [] 0 rfl mJ39_36 (jc_J39_check z.2.1 EV hm) rfl (fun _ _ _ => trivial) rfl rfl (fun _ h => h.elim) (fun _ _ h => h) rfl rfl (Nat.le_of_ble_eq_true rfl) (gFit.of hR (Nat.le_of_ble_eq_true rfl) (Nat.le_of_ble_eq_true rfl) (Nat.le_of_ble_eq_true rfl)) (fun v9 L9 h9 => ?_)
  obtain ⟨rfl, rfl⟩ := h9
  refine l_eq (st' := []) rfl rfl ?_
  refine l_L (L' := [(q, u, .inr (17, [w0, .ref (ns p), .int (iI ((p : Nat) : Int)), .int (iI m), .ref a])), (a, t, .inr (2, [.int (iI m), .int (iI ((N : Nat) : Int)), .ref (ns 0), .ref (ns (N - 1))]))]) rfl ?_
  refine l_run X 1 (pc1 := 5) (ls1 := [_]) (st1 := [_]) rfl ?_
  refine l_callVW X (kNs_T (fun _ _ _ h => h)) [0, 1] [] 0 rfl mJ39_39 (jc_J39_hasNext z.2.1 EV (by omega) (by omega)) rfl (fun _ _ _ => trivial) rfl rfl (fun _ h => h.elim) (fun _ _ h => h) rfl rfl (Nat.le_of_ble_eq_true rfl) (gFit.of hR (Nat.le_of_ble_eq_true rfl) (Nat.le_of_ble_eq_true rfl) (Nat.le_of_ble_eq_true rfl)) (fun v9 L9 h9 => ?_)
  obtain ⟨rfl, rfl⟩ := h9
  refine l_eq (st' := [.int (iI (bI (((p : Nat) : Int) < ((N : Nat) : Int))))]) rfl rfl ?_
  refine l_L (L' := [(q, u, .inr (17, [w0, .ref (ns p), .int (iI ((p : Nat) : Int)), .int (iI m), .ref a])), (a, t, .inr (2, [.int (iI m), .int (iI ((N : Nat) : Int)), .ref (ns 0), .ref (ns (N - 1))]))]) rfl ?_
  refine l_br X (pc1 := 19) (st1 := []) rfl (fun b9 => ?_) (fun b9 => ?_)
  · have c8 : ((p : Nat) : Int) < ((N : Nat) : Int) := bI_t b9
    refine l_run X 2 (pc1 := 21) (ls1 := [_]) (st1 := [_, _]) rfl ?_
    refine l_get X 0 rfl fJ39_29 rfl rfl ?_
    refine l_putW X 0 (kNs_T (fun p h1 h2 h => hu p h2 (h.symm))) rfl fJ39_46 rfl (gDp2 htu) (rfl) rfl rfl (Nat.le_of_ble_eq_true rfl) (L' := [(q, u, .inr (17, [.ref (ns p), .ref (ns p), .int (iI ((p : Nat) : Int)), .int (iI m), .ref a])), (a, t, .inr (2, [.int (iI m), .int (iI ((N : Nat) : Int)), .ref (ns 0), .ref (ns (N - 1))]))]) rfl ?_
    refine l_run X 2 (pc1 := 29) (ls1 := [_]) (st1 := [_, _]) rfl ?_
    refine l_get X 0 rfl fJ39_29 rfl rfl ?_
    by_cases h9 : p + 1 < N
    · refine l_getK X (v := .ref (ns (p + 1))) rfl fJ39_49 (fun M h => h p (by omega) (by omega)) (by show some (gNx ns N p) = _; rw [gNx_1 h9]) ?_
      refine l_putW X 0 (kNs_T (fun p h1 h2 h => hu p h2 (h.symm))) rfl fJ39_29 rfl (gDp2 htu) (rfl) rfl rfl (Nat.le_of_ble_eq_true rfl) (L' := [(q, u, .inr (17, [.ref (ns p), .ref (ns (p + 1)), .int (iI ((p : Nat) : Int)), .int (iI m), .ref a])), (a, t, .inr (2, [.int (iI m), .int (iI ((N : Nat) : Int)), .ref (ns 0), .ref (ns (N - 1))]))]) rfl ?_
      refine l_run X 2 (pc1 := 40) (ls1 := [_]) (st1 := [_, _]) rfl ?_
      refine l_get X 0 rfl fJ39_33 rfl rfl ?_
      refine l_run X 2 (pc1 := 45) (ls1 := [_]) (st1 := [_, _]) rfl ?_
      refine l_eq (ls' := [some (.ref q)]) (st' := [.int (iI (((p : Nat) : Int) + 1)), .ref q]) (by simp only [iI_add, iI_sub, iI_mul, iI_neg]) (by simp only [iI_add, iI_sub, iI_mul, iI_neg]) ?_
      refine l_putW X 0 (kNs_T (fun p h1 h2 h => hu p h2 (h.symm))) rfl fJ39_33 rfl (gDp2 htu) (rfl) rfl rfl (Nat.le_of_ble_eq_true rfl) (L' := [(q, u, .inr (17, [.ref (ns p), .ref (ns (p + 1)), .int (iI (((p : Nat) : Int) + 1)), .int (iI m), .ref a])), (a, t, .inr (2, [.int (iI m), .int (iI ((N : Nat) : Int)), .ref (ns 0), .ref (ns (N - 1))]))]) rfl ?_
      refine l_run X 1 (pc1 := 49) (ls1 := [_]) (st1 := [_]) rfl ?_
      refine l_get X 0 rfl fJ39_46 rfl rfl ?_
      refine l_getK X (v := .ref (f p)) rfl fJ39_52 (fun M h => h (p) (by omega) (by omega)) rfl ?_
      refine l_L (L' := [(q, u, .inr (17, [.ref (ns p), gNx ns N p, .int (iI (((p : Nat) : Int) + 1)), .int (iI m), .ref a])), (a, t, .inr (2, [.int (iI m), .int (iI ((N : Nat) : Int)), .ref (ns 0), .ref (ns (N - 1))]))]) (by rw [gNx_1 h9]) ?_
      exact l_aret X hQ rfl rfl (by first | exact Or.inl ⟨_, rfl⟩ | exact Or.inr ⟨_, rfl⟩) (Or.inr ⟨_, rfl⟩) (Nat.le_of_ble_eq_true rfl) (Nat.le_of_ble_eq_true rfl) ⟨rfl, rfl⟩
    · refine l_getK X (v := .null) rfl fJ39_49 (fun M h => h p (by omega) (by omega)) (by show some (gNx ns N p) = _; rw [gNx_0 h9]) ?_
      refine l_putW X 0 (kNs_T (fun p h1 h2 h => hu p h2 (h.symm))) rfl fJ39_29 rfl (gDp2 htu) (rfl) rfl rfl (Nat.le_of_ble_eq_true rfl) (L' := [(q, u, .inr (17, [.ref (ns p), .null, .int (iI ((p : Nat) : Int)), .int (iI m), .ref a])), (a, t, .inr (2, [.int (iI m), .int (iI ((N : Nat) : Int)), .ref (ns 0), .ref (ns (N - 1))]))]) rfl ?_
      refine l_run X 2 (pc1 := 40) (ls1 := [_]) (st1 := [_, _]) rfl ?_
      refine l_get X 0 rfl fJ39_33 rfl rfl ?_
      refine l_run X 2 (pc1 := 45) (ls1 := [_]) (st1 := [_, _]) rfl ?_
      refine l_eq (ls' := [some (.ref q)]) (st' := [.int (iI (((p : Nat) : Int) + 1)), .ref q]) (by simp only [iI_add, iI_sub, iI_mul, iI_neg]) (by simp only [iI_add, iI_sub, iI_mul, iI_neg]) ?_
      refine l_putW X 0 (kNs_T (fun p h1 h2 h => hu p h2 (h.symm))) rfl fJ39_33 rfl (gDp2 htu) (rfl) rfl rfl (Nat.le_of_ble_eq_true rfl) (L' := [(q, u, .inr (17, [.ref (ns p), .null, .int (iI (((p : Nat) : Int) + 1)), .int (iI m), .ref a])), (a, t, .inr (2, [.int (iI m), .int (iI ((N : Nat) : Int)), .ref (ns 0), .ref (ns (N - 1))]))]) rfl ?_
      refine l_run X 1 (pc1 := 49) (ls1 := [_]) (st1 := [_]) rfl ?_
      refine l_get X 0 rfl fJ39_46 rfl rfl ?_
      refine l_getK X (v := .ref (f p)) rfl fJ39_52 (fun M h => h (p) (by omega) (by omega)) rfl ?_
      refine l_L (L' := [(q, u, .inr (17, [.ref (ns p), gNx ns N p, .int (iI (((p : Nat) : Int) + 1)), .int (iI m), .ref a])), (a, t, .inr (2, [.int (iI m), .int (iI ((N : Nat) : Int)), .ref (ns 0), .ref (ns (N - 1))]))]) (by rw [gNx_0 h9]) ?_
      exact l_aret X hQ rfl rfl (by first | exact Or.inl ⟨_, rfl⟩ | exact Or.inr ⟨_, rfl⟩) (Or.inr ⟨_, rfl⟩) (Nat.le_of_ble_eq_true rfl) (Nat.le_of_ble_eq_true rfl) ⟨rfl, rfl⟩
  · have c8 : ¬ (((p : Nat) : Int) < ((N : Nat) : Int)) := bI_f b9
    exact absurd (by omega) c8
set_option maxHeartbeats 1000000 in
theorem jc_clear (l : Launch) (EV : gEV) {a li N : Nat} (hN : 0 < N ∧ N ≤ 6) {ns f : Nat → Nat} {m : Int} : JC l yJ7_clear cJ7_clear 3 none 1 0 0 EV (kNs li 0 N N ns f) (tLL li) [.ref a] [(a, (24, li), .inr (2, [.int (iI m), .int (iI ((N : Nat) : Int)), .ref (ns 0), .ref (ns (N - 1))]))] (jP none [(a, (24, li), .inr (2, [.int (iI (m + 1)), .int (iI 0), .null, .null]))]) := by
  refine l_body tbJ7_clear tkJ7_clear (by decide) (by intro v hv; simp only [List.mem_cons, List.not_mem_nil, or_false] at hv; rcases hv with rfl <;> rfl) (Nat.le_of_ble_eq_true rfl) (fun M0 z Q X hl hR hQ => ?_)
  subst hl
  have loop : ∀ (j p : Nat), p + 1 + j = N → gLj z (cJ7_clear, yJ7_clear.cls, 3, none, tbJ7_clear, yJ7_clear.name) EV Q (kNs li p N N ns f) (tLL li) M0 [(a, (24, li), .inr (2, [.int (iI m), .int (iI ((N : Nat) : Int)), .ref (ns 0), .ref (ns (N - 1))]))] 0 0 5 [some (.ref a), some (.ref (ns p)), none] [] := by
    intro j
    induction j with
    | zero =>
      intro p hp
      refine l_run X 3 (pc1 := 10) (ls1 := [_, _, _]) (st1 := [_]) rfl ?_
      refine l_take (x := gNd li N p ns f) (fun M h => h p (by omega) (by omega)) ?_
      refine l_K (K2 := kNs li (p + 1) N N ns f) (fun M h _ => kNs_sub h (by omega) (Nat.le_refl _)) ?_
      refine l_L (L' := [(a, (24, li), .inr (2, [.int (iI m), .int (iI ((N : Nat) : Int)), .ref (ns 0), .ref (ns (N - 1))])), ((ns p), (25, 8 * li + p), .inr (8, [.ref (f p), gNx ns N p, gPv ns p]))]) rfl ?_
      by_cases h9 : p + 1 < N
      · refine l_get X 1 (v := .ref (ns (p + 1))) rfl fJ7_36 rfl (by show some (gNx ns N p) = _; rw [gNx_1 h9]) ?_
        refine l_run X 3 (pc1 := 16) (ls1 := [_, _, _]) (st1 := [_, _]) rfl ?_
        refine l_putW X 1 (kNs_T (fun y h1 h2 h => by have := congrArg Prod.snd h; simp at this; omega)) rfl fJ7_39 rfl (gDb_s rfl) (Or.inr ⟨rfl, by omega⟩) rfl rfl (Nat.le_of_ble_eq_true rfl) (L' := [(a, (24, li), .inr (2, [.int (iI m), .int (iI ((N : Nat) : Int)), .ref (ns 0), .ref (ns (N - 1))])), ((ns p), (25, 8 * li + p), .inr (8, [.null, gNx ns N p, gPv ns p]))]) rfl ?_
        refine l_run X 2 (pc1 := 21) (ls1 := [_, _, _]) (st1 := [_, _]) rfl ?_
        refine l_putW X 1 (kNs_T (fun y h1 h2 h => by have := congrArg Prod.snd h; simp at this; omega)) rfl fJ7_36 rfl (gDb_s rfl) (Or.inr ⟨rfl, by omega⟩) rfl rfl (Nat.le_of_ble_eq_true rfl) (L' := [(a, (24, li), .inr (2, [.int (iI m), .int (iI ((N : Nat) : Int)), .ref (ns 0), .ref (ns (N - 1))])), ((ns p), (25, 8 * li + p), .inr (8, [.null, .null, gPv ns p]))]) rfl ?_
        refine l_run X 2 (pc1 := 26) (ls1 := [_, _, _]) (st1 := [_, _]) rfl ?_
        refine l_putW X 1 (kNs_T (fun y h1 h2 h => by have := congrArg Prod.snd h; simp at this; omega)) rfl fJ7_30 rfl (gDb_s rfl) (Or.inr ⟨rfl, by omega⟩) rfl rfl (Nat.le_of_ble_eq_true rfl) (L' := [(a, (24, li), .inr (2, [.int (iI m), .int (iI ((N : Nat) : Int)), .ref (ns 0), .ref (ns (N - 1))])), ((ns p), (25, 8 * li + p), .inr (8, [.null, .null, .null]))]) rfl ?_
        refine l_run X 3 (pc1 := 5) (ls1 := [_, _, _]) (st1 := []) rfl ?_
        exact absurd h9 (by omega)
      · refine l_get X 1 (v := .null) rfl fJ7_36 rfl (by show some (gNx ns N p) = _; rw [gNx_0 h9]) ?_
        refine l_run X 3 (pc1 := 16) (ls1 := [_, _, _]) (st1 := [_, _]) rfl ?_
        refine l_putW X 1 (kNs_T (fun y h1 h2 h => by have := congrArg Prod.snd h; simp at this; omega)) rfl fJ7_39 rfl (gDb_s rfl) (Or.inr ⟨rfl, by omega⟩) rfl rfl (Nat.le_of_ble_eq_true rfl) (L' := [(a, (24, li), .inr (2, [.int (iI m), .int (iI ((N : Nat) : Int)), .ref (ns 0), .ref (ns (N - 1))])), ((ns p), (25, 8 * li + p), .inr (8, [.null, gNx ns N p, gPv ns p]))]) rfl ?_
        refine l_run X 2 (pc1 := 21) (ls1 := [_, _, _]) (st1 := [_, _]) rfl ?_
        refine l_putW X 1 (kNs_T (fun y h1 h2 h => by have := congrArg Prod.snd h; simp at this; omega)) rfl fJ7_36 rfl (gDb_s rfl) (Or.inr ⟨rfl, by omega⟩) rfl rfl (Nat.le_of_ble_eq_true rfl) (L' := [(a, (24, li), .inr (2, [.int (iI m), .int (iI ((N : Nat) : Int)), .ref (ns 0), .ref (ns (N - 1))])), ((ns p), (25, 8 * li + p), .inr (8, [.null, .null, gPv ns p]))]) rfl ?_
        refine l_run X 2 (pc1 := 26) (ls1 := [_, _, _]) (st1 := [_, _]) rfl ?_
        refine l_putW X 1 (kNs_T (fun y h1 h2 h => by have := congrArg Prod.snd h; simp at this; omega)) rfl fJ7_30 rfl (gDb_s rfl) (Or.inr ⟨rfl, by omega⟩) rfl rfl (Nat.le_of_ble_eq_true rfl) (L' := [(a, (24, li), .inr (2, [.int (iI m), .int (iI ((N : Nat) : Int)), .ref (ns 0), .ref (ns (N - 1))])), ((ns p), (25, 8 * li + p), .inr (8, [.null, .null, .null]))]) rfl ?_
        refine l_run X 3 (pc1 := 5) (ls1 := [_, _, _]) (st1 := []) rfl ?_
        refine l_run X 2 (pc1 := 34) (ls1 := [_, _, _]) (st1 := []) rfl ?_
        refine l_sub [0] (L' := [(a, (24, li), .inr (2, [.int (iI m), .int (iI ((N : Nat) : Int)), .ref (ns 0), .ref (ns (N - 1))]))]) rfl ?_
        refine l_run X 4 (pc1 := 38) (ls1 := [_, _, _]) (st1 := [_, _, _, _]) rfl ?_
        refine l_putW X 0 (kNs_T (fun y h1 h2 h => by have := congrArg Prod.fst h; simp at this)) rfl fJ7_27 rfl (gDb_s rfl) (Or.inl rfl) rfl rfl (Nat.le_of_ble_eq_true rfl) (L' := [(a, (24, li), .inr (2, [.int (iI m), .int (iI ((N : Nat) : Int)), .ref (ns 0), .null]))]) rfl ?_
        refine l_putW X 0 (kNs_T (fun y h1 h2 h => by have := congrArg Prod.fst h; simp at this)) rfl fJ7_18 rfl (gDb_s rfl) (Or.inl rfl) rfl rfl (Nat.le_of_ble_eq_true rfl) (L' := [(a, (24, li), .inr (2, [.int (iI m), .int (iI ((N : Nat) : Int)), .null, .null]))]) rfl ?_
        refine l_run X 2 (pc1 := 46) (ls1 := [_, _, _]) (st1 := [_, _]) rfl ?_
        refine l_putW X 0 (kNs_T (fun y h1 h2 h => by have := congrArg Prod.fst h; simp at this)) rfl fJ7_7 rfl (gDb_s rfl) (Or.inl rfl) rfl rfl (Nat.le_of_ble_eq_true rfl) (L' := [(a, (24, li), .inr (2, [.int (iI m), .int (iI 0), .null, .null]))]) rfl ?_
        refine l_run X 2 (pc1 := 51) (ls1 := [_, _, _]) (st1 := [_, _]) rfl ?_
        refine l_get X 0 rfl fJ7_33_2 rfl rfl ?_
        refine l_run X 2 (pc1 := 56) (ls1 := [_, _, _]) (st1 := [_, _]) rfl ?_
        refine l_eq (ls' := [some (.ref a), some (.null), some (.null)]) (st' := [.int (iI (m + 1)), .ref a]) (by simp only [iI_add, iI_sub, iI_mul, iI_neg]) (by simp only [iI_add, iI_sub, iI_mul, iI_neg]) ?_
        refine l_putW X 0 (kNs_T (fun y h1 h2 h => by have := congrArg Prod.fst h; simp at this)) rfl fJ7_33_2 rfl (gDb_s rfl) (Or.inl rfl) rfl rfl (Nat.le_of_ble_eq_true rfl) (L' := [(a, (24, li), .inr (2, [.int (iI (m + 1)), .int (iI 0), .null, .null]))]) rfl ?_
        exact l_vret X hQ rfl rfl (Nat.le_of_ble_eq_true rfl) (Nat.le_of_ble_eq_true rfl) ⟨rfl, rfl⟩
    | succ j ih =>
      intro p hp
      refine l_run X 3 (pc1 := 10) (ls1 := [_, _, _]) (st1 := [_]) rfl ?_
      refine l_take (x := gNd li N p ns f) (fun M h => h p (by omega) (by omega)) ?_
      refine l_K (K2 := kNs li (p + 1) N N ns f) (fun M h _ => kNs_sub h (by omega) (Nat.le_refl _)) ?_
      refine l_L (L' := [(a, (24, li), .inr (2, [.int (iI m), .int (iI ((N : Nat) : Int)), .ref (ns 0), .ref (ns (N - 1))])), ((ns p), (25, 8 * li + p), .inr (8, [.ref (f p), gNx ns N p, gPv ns p]))]) rfl ?_
      by_cases h9 : p + 1 < N
      · refine l_get X 1 (v := .ref (ns (p + 1))) rfl fJ7_36 rfl (by show some (gNx ns N p) = _; rw [gNx_1 h9]) ?_
        refine l_run X 3 (pc1 := 16) (ls1 := [_, _, _]) (st1 := [_, _]) rfl ?_
        refine l_putW X 1 (kNs_T (fun y h1 h2 h => by have := congrArg Prod.snd h; simp at this; omega)) rfl fJ7_39 rfl (gDb_s rfl) (Or.inr ⟨rfl, by omega⟩) rfl rfl (Nat.le_of_ble_eq_true rfl) (L' := [(a, (24, li), .inr (2, [.int (iI m), .int (iI ((N : Nat) : Int)), .ref (ns 0), .ref (ns (N - 1))])), ((ns p), (25, 8 * li + p), .inr (8, [.null, gNx ns N p, gPv ns p]))]) rfl ?_
        refine l_run X 2 (pc1 := 21) (ls1 := [_, _, _]) (st1 := [_, _]) rfl ?_
        refine l_putW X 1 (kNs_T (fun y h1 h2 h => by have := congrArg Prod.snd h; simp at this; omega)) rfl fJ7_36 rfl (gDb_s rfl) (Or.inr ⟨rfl, by omega⟩) rfl rfl (Nat.le_of_ble_eq_true rfl) (L' := [(a, (24, li), .inr (2, [.int (iI m), .int (iI ((N : Nat) : Int)), .ref (ns 0), .ref (ns (N - 1))])), ((ns p), (25, 8 * li + p), .inr (8, [.null, .null, gPv ns p]))]) rfl ?_
        refine l_run X 2 (pc1 := 26) (ls1 := [_, _, _]) (st1 := [_, _]) rfl ?_
        refine l_putW X 1 (kNs_T (fun y h1 h2 h => by have := congrArg Prod.snd h; simp at this; omega)) rfl fJ7_30 rfl (gDb_s rfl) (Or.inr ⟨rfl, by omega⟩) rfl rfl (Nat.le_of_ble_eq_true rfl) (L' := [(a, (24, li), .inr (2, [.int (iI m), .int (iI ((N : Nat) : Int)), .ref (ns 0), .ref (ns (N - 1))])), ((ns p), (25, 8 * li + p), .inr (8, [.null, .null, .null]))]) rfl ?_
        refine l_run X 3 (pc1 := 5) (ls1 := [_, _, _]) (st1 := []) rfl ?_
        refine l_sub [0] (L' := [(a, (24, li), .inr (2, [.int (iI m), .int (iI ((N : Nat) : Int)), .ref (ns 0), .ref (ns (N - 1))]))]) rfl ?_
        exact l_forget [true, true, false] rfl (ih (p + 1) (by omega))
      · refine l_get X 1 (v := .null) rfl fJ7_36 rfl (by show some (gNx ns N p) = _; rw [gNx_0 h9]) ?_
        refine l_run X 3 (pc1 := 16) (ls1 := [_, _, _]) (st1 := [_, _]) rfl ?_
        refine l_putW X 1 (kNs_T (fun y h1 h2 h => by have := congrArg Prod.snd h; simp at this; omega)) rfl fJ7_39 rfl (gDb_s rfl) (Or.inr ⟨rfl, by omega⟩) rfl rfl (Nat.le_of_ble_eq_true rfl) (L' := [(a, (24, li), .inr (2, [.int (iI m), .int (iI ((N : Nat) : Int)), .ref (ns 0), .ref (ns (N - 1))])), ((ns p), (25, 8 * li + p), .inr (8, [.null, gNx ns N p, gPv ns p]))]) rfl ?_
        refine l_run X 2 (pc1 := 21) (ls1 := [_, _, _]) (st1 := [_, _]) rfl ?_
        refine l_putW X 1 (kNs_T (fun y h1 h2 h => by have := congrArg Prod.snd h; simp at this; omega)) rfl fJ7_36 rfl (gDb_s rfl) (Or.inr ⟨rfl, by omega⟩) rfl rfl (Nat.le_of_ble_eq_true rfl) (L' := [(a, (24, li), .inr (2, [.int (iI m), .int (iI ((N : Nat) : Int)), .ref (ns 0), .ref (ns (N - 1))])), ((ns p), (25, 8 * li + p), .inr (8, [.null, .null, gPv ns p]))]) rfl ?_
        refine l_run X 2 (pc1 := 26) (ls1 := [_, _, _]) (st1 := [_, _]) rfl ?_
        refine l_putW X 1 (kNs_T (fun y h1 h2 h => by have := congrArg Prod.snd h; simp at this; omega)) rfl fJ7_30 rfl (gDb_s rfl) (Or.inr ⟨rfl, by omega⟩) rfl rfl (Nat.le_of_ble_eq_true rfl) (L' := [(a, (24, li), .inr (2, [.int (iI m), .int (iI ((N : Nat) : Int)), .ref (ns 0), .ref (ns (N - 1))])), ((ns p), (25, 8 * li + p), .inr (8, [.null, .null, .null]))]) rfl ?_
        refine l_run X 3 (pc1 := 5) (ls1 := [_, _, _]) (st1 := []) rfl ?_
        refine l_run X 2 (pc1 := 34) (ls1 := [_, _, _]) (st1 := []) rfl ?_
        refine l_sub [0] (L' := [(a, (24, li), .inr (2, [.int (iI m), .int (iI ((N : Nat) : Int)), .ref (ns 0), .ref (ns (N - 1))]))]) rfl ?_
        refine l_run X 4 (pc1 := 38) (ls1 := [_, _, _]) (st1 := [_, _, _, _]) rfl ?_
        refine l_putW X 0 (kNs_T (fun y h1 h2 h => by have := congrArg Prod.fst h; simp at this)) rfl fJ7_27 rfl (gDb_s rfl) (Or.inl rfl) rfl rfl (Nat.le_of_ble_eq_true rfl) (L' := [(a, (24, li), .inr (2, [.int (iI m), .int (iI ((N : Nat) : Int)), .ref (ns 0), .null]))]) rfl ?_
        refine l_putW X 0 (kNs_T (fun y h1 h2 h => by have := congrArg Prod.fst h; simp at this)) rfl fJ7_18 rfl (gDb_s rfl) (Or.inl rfl) rfl rfl (Nat.le_of_ble_eq_true rfl) (L' := [(a, (24, li), .inr (2, [.int (iI m), .int (iI ((N : Nat) : Int)), .null, .null]))]) rfl ?_
        refine l_run X 2 (pc1 := 46) (ls1 := [_, _, _]) (st1 := [_, _]) rfl ?_
        refine l_putW X 0 (kNs_T (fun y h1 h2 h => by have := congrArg Prod.fst h; simp at this)) rfl fJ7_7 rfl (gDb_s rfl) (Or.inl rfl) rfl rfl (Nat.le_of_ble_eq_true rfl) (L' := [(a, (24, li), .inr (2, [.int (iI m), .int (iI 0), .null, .null]))]) rfl ?_
        refine l_run X 2 (pc1 := 51) (ls1 := [_, _, _]) (st1 := [_, _]) rfl ?_
        refine l_get X 0 rfl fJ7_33_2 rfl rfl ?_
        refine l_run X 2 (pc1 := 56) (ls1 := [_, _, _]) (st1 := [_, _]) rfl ?_
        refine l_eq (ls' := [some (.ref a), some (.null), some (.null)]) (st' := [.int (iI (m + 1)), .ref a]) (by simp only [iI_add, iI_sub, iI_mul, iI_neg]) (by simp only [iI_add, iI_sub, iI_mul, iI_neg]) ?_
        refine l_putW X 0 (kNs_T (fun y h1 h2 h => by have := congrArg Prod.fst h; simp at this)) rfl fJ7_33_2 rfl (gDb_s rfl) (Or.inl rfl) rfl rfl (Nat.le_of_ble_eq_true rfl) (L' := [(a, (24, li), .inr (2, [.int (iI (m + 1)), .int (iI 0), .null, .null]))]) rfl ?_
        exact l_vret X hQ rfl rfl (Nat.le_of_ble_eq_true rfl) (Nat.le_of_ble_eq_true rfl) ⟨rfl, rfl⟩
  refine l_eq (ls' := [some (.ref a), none, none]) (st' := []) rfl rfl ?_
  refine l_run X 1 (pc1 := 1) (ls1 := [_, _, _]) (st1 := [_]) rfl ?_
  refine l_get X 0 rfl fJ7_18 rfl rfl ?_
  refine l_run X 1 (pc1 := 5) (ls1 := [_, _, _]) (st1 := []) rfl ?_
  exact loop (N - 1) 0 (by omega)
