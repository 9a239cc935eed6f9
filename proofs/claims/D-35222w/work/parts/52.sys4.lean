/-! THE SYSTEM's methods walked: what bookings and calls become; trunks -/
def uBk (W : gV) (b y : Int) : Nat → gV
  | 0 => W
  | j + 1 => vS (uBk W b y j) 5 (W 24 (30 * b + (j : Int)).toNat).toNat y
theorem uBk_k {W : gV} {b y : Int} {k i : Nat} (h : k ≠ 5) (n : Nat) : uBk W b y n k i = W k i := by
  induction n with
  | zero => rfl
  | succ n ih => rw [uBk, vS_k h, ih]
def uBec (U : gV) (b : Int) (x : Nat) : gV := uBk (vS U 18 b.toNat (x : Int)) b (if x = 4 ∨ x = 5 then -1 else b) (U 23 b.toNat).toNat
def uEo (W : gV) (c : Int) : Nat → gV
  | 0 => W
  | j + 1 => vS (uEo W c j) 9 (W 32 (2 * c + (j : Int)).toNat).toNat (-1)
theorem uEo_k {W : gV} {c : Int} {k i : Nat} (h : k ≠ 9) (n : Nat) : uEo W c n k i = W k i := by
  induction n with
  | zero => rfl
  | succ n ih => rw [uEo, vS_k h, ih]
def uEnd (U : gV) (c : Int) : gV := uEo (vS (vS U 15 c.toNat 0) 16 c.toNat (-1)) c (U 31 c.toNat).toNat
set_option maxHeartbeats 1000000 in
theorem tc_become (l : Launch) (EV : gEV) {A : gAd} {U : gV} {b : Int} {x : Nat} (hb : 0 ≤ b ∧ b < U 42 0) (h40 : U 42 0 ≤ 40) (hx : x < 6) (hm : 0 ≤ U 23 b.toNat ∧ U 23 b.toNat ≤ 30) (hr : ∀ k : Int, 0 ≤ k → k < U 23 b.toNat → 0 ≤ U 24 (30 * b + k).toNat ∧ U 24 (30 * b + k).toNat < U 41 0) : TC l yX10_become cX10_become 4 (some .int) 5 1 4 EV (fun t => t.1 = 11 ∨ t.1 = 12 ∨ t = (71, 0)) [.ref (A 12 (b.toNat)), .ref (EV.2.2.2 (10 + x))] A U [] (fun w A9 U9 L9 => w = some (.int (iI (U 23 b.toNat))) ∧ A9 = A ∧ U9 = uBec U b x ∧ L9 = L9) (rNo) := by
  refine t_body tbX10_become tkX10_become (by decide) (by intro v hv; simp only [List.mem_cons, List.not_mem_nil, or_false] at hv; rcases hv with rfl | rfl <;> rfl) (Nat.le_of_ble_eq_true rfl) (fun M0 z Q X hl hR hQ hE => ?_)
  subst hl
  have hal0 : alL (vS U 18 b.toNat (x : Int)) (10 + b.toNat) := by unfold alL; show _ ∨ (_ ∧ _ ∧ _ < U 42 0) ∨ _; omega
  have hN0 : alN (vS U 18 b.toNat (x : Int)) (10 + b.toNat) = U 23 b.toNat := by rw [alN_b _ (by omega)]; rfl
  have loop : ∀ (q j k : Nat), (k : Int) + j = U 23 b.toNat → gTd z (cX10_become, yX10_become.cls, 4, (some .int), tbX10_become, yX10_become.name) EV Q (fun t => t.1 = 11 ∨ t.1 = 12 ∨ t = (71, 0)) M0 A (uBk (vS U 18 b.toNat (x : Int)) b (if x = 4 ∨ x = 5 then -1 else b) k) [(q, (71, 0), itA (A 30 (10 + b.toNat)) (U 23 b.toNat).toNat k)] 1 4 13 [some (.ref (A 12 (b.toNat))), some (.ref (EV.2.2.2 (10 + x))), some (.ref q), none] [] := by
    intro q j
    induction j with
    | zero =>
      intro k hk
      have hal : alL (uBk (vS U 18 b.toNat (x : Int)) b (if x = 4 ∨ x = 5 then -1 else b) k) (10 + b.toNat) := by
        have e42 : (uBk (vS U 18 b.toNat (x : Int)) b (if x = 4 ∨ x = 5 then -1 else b) k) 42 0 = U 42 0 := uBk_k (by decide) k
        unfold alL
        omega
      have hN : alN (uBk (vS U 18 b.toNat (x : Int)) b (if x = 4 ∨ x = 5 then -1 else b) k) (10 + b.toNat) = U 23 b.toNat := by rw [alN_b _ (by omega)]; exact uBk_k (by decide) k
      have e41 : (uBk (vS U 18 b.toNat (x : Int)) b (if x = 4 ∨ x = 5 then -1 else b) k) 41 0 = U 41 0 := uBk_k (by decide) k
      have e42 : (uBk (vS U 18 b.toNat (x : Int)) b (if x = 4 ∨ x = 5 then -1 else b) k) 42 0 = U 42 0 := uBk_k (by decide) k
      refine t_run X 1 (pc1 := 14) (ls1 := [_, _, _, _]) (st1 := [_]) rfl ?_
      refine t_callF X [0] [] rfl mX10_42_14 (tc_alhasN z.2.1 EV (k := k) hal hN (by omega) (by omega)) (fun M _ h => ⟨_, _, h.at (i := 0) rfl⟩) rfl rfl (fun _ h => h.elim) (fun _ _ h => h) rfl rfl (Nat.le_of_ble_eq_true rfl) (gFit.of hR (by decide) (Nat.le_of_ble_eq_true rfl) (Nat.le_of_ble_eq_true rfl)) (fun _ h => h.elim) (fun v9 A9 U9 L9 h9 => ?_)
      obtain ⟨rfl, h7, h8, rfl⟩ := h9
      obtain rfl := h7.symm
      obtain rfl := h8.symm
      refine t_eq (st' := [.int (iI (bI (¬ ((k : Nat) : Int) = U 23 b.toNat)))]) rfl rfl ?_
      refine t_L (L' := [(q, (71, 0), itA (A 30 (10 + b.toNat)) (U 23 b.toNat).toNat k)]) rfl ?_
      refine t_br X (pc1 := 51) (st1 := []) rfl (fun b9 => ?_) (fun b9 => ?_)
      · have c19 : ¬ (¬ ((k : Nat) : Int) = U 23 b.toNat) := bI_f b9
        refine t_run X 1 (pc1 := 52) (ls1 := [_, _, _, _]) (st1 := [_]) rfl ?_
        refine t_get X (12, (b.toNat)) (v := .ref (A 30 (10 + b.toNat))) rfl fX10_10 (sC_12 (by first | omega | (show _ < U 42 0; omega))) rfl ?_
        refine t_callV X [] [0] rfl mX10_61 (tc_alsizeN z.2.1 EV (i := 10 + b.toNat) hal (n := U 23 b.toNat) hN (by omega)) (fun M h _ => gAL_at (h.2.1 (10 + b.toNat) (by unfold alL; first | omega | (show _ ∨ (_ ∧ _ ∧ _ < U 42 0) ∨ (_ ∧ _ < U 43 0); omega)))) rfl rfl (fun _ h => h.elim) (fun _ _ h => h) rfl rfl (Nat.le_of_ble_eq_true rfl) (gFit.of hR (by decide) (Nat.le_of_ble_eq_true rfl) (Nat.le_of_ble_eq_true rfl)) (fun _ h => h.elim) (fun v9 A9 U9 L9 h9 => ?_)
        obtain ⟨rfl, h7, h8, rfl⟩ := h9
        obtain rfl := h7.symm
        obtain rfl := h8.symm
        refine t_eq (st' := [.int (iI (U 23 b.toNat))]) rfl rfl ?_
        refine t_L (L' := [(q, (71, 0), itA (A 30 (10 + b.toNat)) (U 23 b.toNat).toNat k)]) rfl ?_
        have e9 : k = (U 23 b.toNat).toNat := by omega
        subst e9
        exact t_iret X hQ rfl rfl (by omega) (by omega) ⟨rfl, rfl, rfl, rfl⟩
      · have c19 : ¬ ((k : Nat) : Int) = U 23 b.toNat := bI_t b9
        exact absurd (by omega) c19
    | succ j ih =>
      intro k hk
      have hal : alL (uBk (vS U 18 b.toNat (x : Int)) b (if x = 4 ∨ x = 5 then -1 else b) k) (10 + b.toNat) := by
        have e42 : (uBk (vS U 18 b.toNat (x : Int)) b (if x = 4 ∨ x = 5 then -1 else b) k) 42 0 = U 42 0 := uBk_k (by decide) k
        unfold alL
        omega
      have hN : alN (uBk (vS U 18 b.toNat (x : Int)) b (if x = 4 ∨ x = 5 then -1 else b) k) (10 + b.toNat) = U 23 b.toNat := by rw [alN_b _ (by omega)]; exact uBk_k (by decide) k
      have e41 : (uBk (vS U 18 b.toNat (x : Int)) b (if x = 4 ∨ x = 5 then -1 else b) k) 41 0 = U 41 0 := uBk_k (by decide) k
      have e42 : (uBk (vS U 18 b.toNat (x : Int)) b (if x = 4 ∨ x = 5 then -1 else b) k) 42 0 = U 42 0 := uBk_k (by decide) k
      have hF : alF A (uBk (vS U 18 b.toNat (x : Int)) b (if x = 4 ∨ x = 5 then -1 else b) k) (10 + b.toNat) k = A 11 (U 24 (30 * b + (k : Int)).toNat).toNat := by
        rw [alF_b _ _ (by omega), uBk_k (by decide), show 30 * b.toNat + k = (30 * b + (k : Int)).toNat by omega]; rfl
      have h24 := hr (k : Int) (by omega) (by omega)
      refine t_run X 1 (pc1 := 14) (ls1 := [_, _, _, _]) (st1 := [_]) rfl ?_
      refine t_callF X [0] [] rfl mX10_42_14 (tc_alhasN z.2.1 EV (k := k) hal hN (by omega) (by omega)) (fun M _ h => ⟨_, _, h.at (i := 0) rfl⟩) rfl rfl (fun _ h => h.elim) (fun _ _ h => h) rfl rfl (Nat.le_of_ble_eq_true rfl) (gFit.of hR (by decide) (Nat.le_of_ble_eq_true rfl) (Nat.le_of_ble_eq_true rfl)) (fun _ h => h.elim) (fun v9 A9 U9 L9 h9 => ?_)
      obtain ⟨rfl, h7, h8, rfl⟩ := h9
      obtain rfl := h7.symm
      obtain rfl := h8.symm
      refine t_eq (st' := [.int (iI (bI (¬ ((k : Nat) : Int) = U 23 b.toNat)))]) rfl rfl ?_
      refine t_L (L' := [(q, (71, 0), itA (A 30 (10 + b.toNat)) (U 23 b.toNat).toNat k)]) rfl ?_
      refine t_br X (pc1 := 51) (st1 := []) rfl (fun b9 => ?_) (fun b9 => ?_)
      · have c19 : ¬ (¬ ((k : Nat) : Int) = U 23 b.toNat) := bI_f b9
        exact absurd (by omega) c19
      · have c19 : ¬ ((k : Nat) : Int) = U 23 b.toNat := bI_t b9
        refine t_run X 1 (pc1 := 23) (ls1 := [_, _, _, _]) (st1 := [_]) rfl ?_
        refine t_callF X [0] [] rfl mX10_48_14 (tc_alnextN z.2.1 EV (u := (71, 0)) (k := k) hal hN (by omega) (by decide) (by omega) hF) (fun M _ h => ⟨_, _, h.at (i := 0) rfl⟩) rfl rfl (fun _ h => Or.inr (Or.inr h)) (fun _ h => by cases h) rfl rfl (Nat.le_of_ble_eq_true rfl) (gFit.of hR (by decide) (Nat.le_of_ble_eq_true rfl) (Nat.le_of_ble_eq_true rfl)) (fun _ h => h.elim) (fun v9 A9 U9 L9 h9 => ?_)
        obtain ⟨rfl, h7, h8, rfl⟩ := h9
        obtain rfl := h7.symm
        obtain rfl := h8.symm
        refine t_eq (st' := [.ref (A 11 ((U 24 (30 * b + (k : Int)).toNat).toNat))]) rfl rfl ?_
        refine t_L (L' := [(q, (71, 0), itA (A 30 (10 + b.toNat)) (U 23 b.toNat).toNat (k + 1))]) rfl ?_
        refine t_cast X rfl kX10_52_7 (fun M h _ => ⟨_, _, h.1 (11, ((U 24 (30 * b + (k : Int)).toNat).toNat)) _ (sC_11 (by first | omega | (show _ < U 41 0; omega)))⟩) ?_
        refine t_run X 3 (pc1 := 34) (ls1 := [_, _, _, _]) (st1 := [_, _]) rfl ?_
        refine t_promises X rfl hx rfl (Nat.le_of_ble_eq_true rfl) ⟨by rw [hR]; exact Nat.le_of_ble_eq_true rfl, by rw [hR]; exact Nat.le_of_ble_eq_true rfl⟩ ?_
        refine t_br X (pc1 := 44) (st1 := [_]) rfl (fun b9 => ?_) (fun b9 => ?_)
        · have c37 : ¬ (¬ (x = 4 ∨ x = 5)) := bI_f b9
          refine t_run X 1 (pc1 := 45) (ls1 := [_, _, _, _]) (st1 := [_, _]) rfl ?_
          refine t_eq (st' := [rfA A 12 (-1), .ref (A 11 ((U 24 (30 * b + (k : Int)).toNat).toNat))]) rfl (by rw [rfA_0 (by omega)]) ?_
          refine t_pu5 X (x := (-1)) rfl fX10_57 (by first | omega | (show _ < U 41 0; omega)) (Or.inl rfl) (by intro x hx; simp only [List.mem_cons, List.not_mem_nil, or_false] at hx; (try rcases hx with rfl | hx) <;> (try subst hx) <;> simp) ?_
          refine t_run X 1 (pc1 := 13) (ls1 := [_, _, _, _]) (st1 := []) rfl ?_
          refine t_U (U' := uBk (vS U 18 b.toNat (x : Int)) b (if x = 4 ∨ x = 5 then -1 else b) (k + 1)) (by rw [uBk, if_pos (by omega)]; rfl) ?_
          exact t_forget [true, true, true, false] rfl (ih (k + 1) (by omega))
        · have c37 : ¬ (x = 4 ∨ x = 5) := bI_t b9
          refine t_run X 2 (pc1 := 45) (ls1 := [_, _, _, _]) (st1 := [_, _]) rfl ?_
          refine t_eq (st' := [rfA A 12 b, .ref (A 11 ((U 24 (30 * b + (k : Int)).toNat).toNat))]) rfl (by rw [rfA_1 (by omega)] <;> first | rfl | (congr 2; omega)) ?_
          refine t_pu5 X (x := b) rfl fX10_57 (by first | omega | (show _ < U 41 0; omega)) (Or.inl rfl) (by intro x hx; simp only [List.mem_cons, List.not_mem_nil, or_false] at hx; (try rcases hx with rfl | hx) <;> (try subst hx) <;> simp) ?_
          refine t_run X 1 (pc1 := 13) (ls1 := [_, _, _, _]) (st1 := []) rfl ?_
          refine t_U (U' := uBk (vS U 18 b.toNat (x : Int)) b (if x = 4 ∨ x = 5 then -1 else b) (k + 1)) (by rw [uBk, if_neg (by omega)]; rfl) ?_
          exact t_forget [true, true, true, false] rfl (ih (k + 1) (by omega))
  refine t_eq (ls' := [some (.ref (A 12 (b.toNat))), some (.ref (EV.2.2.2 (10 + x))), none, none]) (st' := []) rfl rfl ?_
  refine t_run X 2 (pc1 := 2) (ls1 := [_, _, _, _]) (st1 := [_, _]) rfl ?_
  refine t_pu18 X (x := x) rfl fX10_22 (by first | omega | (show _ < U 42 0; omega)) (Or.inr (Or.inl rfl)) (fun _ h => nomatch h) ?_
  refine t_run X 1 (pc1 := 6) (ls1 := [_, _, _, _]) (st1 := [_]) rfl ?_
  refine t_get X (12, (b.toNat)) (v := .ref (A 30 (10 + b.toNat))) rfl fX10_10 (sC_12 (by first | omega | (show _ < U 42 0; omega))) rfl ?_
  refine t_callV X [] [] rfl mX10_38 (tc_aliterN z.2.1 EV (i := 10 + b.toNat) hal0 hN0 (71, 0) (by decide)) (fun M h _ => gAL_at (h.2.1 (10 + b.toNat) (by unfold alL; first | omega | (show _ ∨ (_ ∧ _ ∧ _ < U 42 0) ∨ (_ ∧ _ < U 43 0); omega)))) rfl rfl (fun _ h => Or.inr (Or.inr h)) (fun _ h => by cases h) rfl rfl (Nat.le_of_ble_eq_true rfl) (gFit.of hR (by decide) (Nat.le_of_ble_eq_true rfl) (Nat.le_of_ble_eq_true rfl)) (fun _ h => h.elim) (fun v9 A9 U9 L9 h9 => ?_)
  obtain ⟨q1, rfl, h7, h8, rfl⟩ := h9
  obtain rfl := h7.symm
  obtain rfl := h8.symm
  refine t_eq (st' := [.ref q1]) rfl rfl ?_
  refine t_L (L' := [(q1, (71, 0), itA (A 30 (10 + b.toNat)) (U 23 b.toNat).toNat 0)]) rfl ?_
  refine t_run X 1 (pc1 := 13) (ls1 := [_, _, _, _]) (st1 := []) rfl ?_
  exact loop q1 (U 23 b.toNat).toNat 0 (by omega)
set_option maxHeartbeats 1000000 in
theorem tc_endC (l : Launch) (EV : gEV) {A : gAd} {U : gV} {c : Int} (hc : 0 ≤ c ∧ c < U 43 0) (hm : 0 ≤ U 31 c.toNat ∧ U 31 c.toNat ≤ 2) (hr : ∀ k : Int, 0 ≤ k → k < U 31 c.toNat → 0 ≤ U 32 (2 * c + k).toNat ∧ U 32 (2 * c + k).toNat < 6) : TC l yX9_end cX9_end 3 none 5 1 4 EV (fun t => t.1 = 13 ∨ t.1 = 14 ∨ t = (71, 0)) [.ref (A 13 (c.toNat))] A U [] (fun w A9 U9 L9 => w = none ∧ A9 = A ∧ U9 = uEnd U c ∧ L9 = L9) (rNo) := by
  refine t_body tbX9_end tkX9_end (by decide) (by intro v hv; simp only [List.mem_cons, List.not_mem_nil, or_false] at hv; rcases hv with rfl <;> rfl) (Nat.le_of_ble_eq_true rfl) (fun M0 z Q X hl hR hQ hE => ?_)
  subst hl
  have hal0 : alL (vS (vS U 15 c.toNat 0) 16 c.toNat (-1)) (100 + c.toNat) := by unfold alL; show _ ∨ _ ∨ (_ ∧ _ < U 43 0); omega
  have hN0 : alN (vS (vS U 15 c.toNat 0) 16 c.toNat (-1)) (100 + c.toNat) = U 31 c.toNat := by rw [alN_o]; rfl
  have loop : ∀ (q j k : Nat), (k : Int) + j = U 31 c.toNat → gTd z (cX9_end, yX9_end.cls, 3, none, tbX9_end, yX9_end.name) EV Q (fun t => t.1 = 13 ∨ t.1 = 14 ∨ t = (71, 0)) M0 A (uEo (vS (vS U 15 c.toNat 0) 16 c.toNat (-1)) c k) [(q, (71, 0), itA (A 30 (100 + c.toNat)) (U 31 c.toNat).toNat k)] 1 4 18 [some (.ref (A 13 (c.toNat))), some (.ref q), none] [] := by
    intro q j
    induction j with
    | zero =>
      intro k hk
      have hal : alL (uEo (vS (vS U 15 c.toNat 0) 16 c.toNat (-1)) c k) (100 + c.toNat) := by
        have e43 : (uEo (vS (vS U 15 c.toNat 0) 16 c.toNat (-1)) c k) 43 0 = U 43 0 := uEo_k (by decide) k
        unfold alL
        omega
      have hN : alN (uEo (vS (vS U 15 c.toNat 0) 16 c.toNat (-1)) c k) (100 + c.toNat) = U 31 c.toNat := by rw [alN_o]; exact uEo_k (by decide) k
      have e43 : (uEo (vS (vS U 15 c.toNat 0) 16 c.toNat (-1)) c k) 43 0 = U 43 0 := uEo_k (by decide) k
      refine t_run X 1 (pc1 := 19) (ls1 := [_, _, _]) (st1 := [_]) rfl ?_
      refine t_callF X [0] [] rfl mX9_33_14 (tc_alhasN z.2.1 EV (k := k) hal hN (by omega) (by omega)) (fun M _ h => ⟨_, _, h.at (i := 0) rfl⟩) rfl rfl (fun _ h => h.elim) (fun _ _ h => h) rfl rfl (Nat.le_of_ble_eq_true rfl) (gFit.of hR (by decide) (Nat.le_of_ble_eq_true rfl) (Nat.le_of_ble_eq_true rfl)) (fun _ h => h.elim) (fun v9 A9 U9 L9 h9 => ?_)
      obtain ⟨rfl, h7, h8, rfl⟩ := h9
      obtain rfl := h7.symm
      obtain rfl := h8.symm
      refine t_eq (st' := [.int (iI (bI (¬ ((k : Nat) : Int) = U 31 c.toNat)))]) rfl rfl ?_
      refine t_L (L' := [(q, (71, 0), itA (A 30 (100 + c.toNat)) (U 31 c.toNat).toNat k)]) rfl ?_
      refine t_br X (pc1 := 45) (st1 := []) rfl (fun b9 => ?_) (fun b9 => ?_)
      · have c24 : ¬ (¬ ((k : Nat) : Int) = U 31 c.toNat) := bI_f b9
        have e9 : k = (U 31 c.toNat).toNat := by omega
        subst e9
        exact t_vret X hQ rfl rfl (by omega) (by omega) ⟨rfl, rfl, rfl, rfl⟩
      · have c24 : ¬ ((k : Nat) : Int) = U 31 c.toNat := bI_t b9
        exact absurd (by omega) c24
    | succ j ih =>
      intro k hk
      have hal : alL (uEo (vS (vS U 15 c.toNat 0) 16 c.toNat (-1)) c k) (100 + c.toNat) := by
        have e43 : (uEo (vS (vS U 15 c.toNat 0) 16 c.toNat (-1)) c k) 43 0 = U 43 0 := uEo_k (by decide) k
        unfold alL
        omega
      have hN : alN (uEo (vS (vS U 15 c.toNat 0) 16 c.toNat (-1)) c k) (100 + c.toNat) = U 31 c.toNat := by rw [alN_o]; exact uEo_k (by decide) k
      have e43 : (uEo (vS (vS U 15 c.toNat 0) 16 c.toNat (-1)) c k) 43 0 = U 43 0 := uEo_k (by decide) k
      have hF : alF A (uEo (vS (vS U 15 c.toNat 0) 16 c.toNat (-1)) c k) (100 + c.toNat) k = A 14 (U 32 (2 * c + (k : Int)).toNat).toNat := by
        rw [alF_o, uEo_k (by decide), show 2 * c.toNat + k = (2 * c + (k : Int)).toNat by omega]; rfl
      have h32 := hr (k : Int) (by omega) (by omega)
      refine t_run X 1 (pc1 := 19) (ls1 := [_, _, _]) (st1 := [_]) rfl ?_
      refine t_callF X [0] [] rfl mX9_33_14 (tc_alhasN z.2.1 EV (k := k) hal hN (by omega) (by omega)) (fun M _ h => ⟨_, _, h.at (i := 0) rfl⟩) rfl rfl (fun _ h => h.elim) (fun _ _ h => h) rfl rfl (Nat.le_of_ble_eq_true rfl) (gFit.of hR (by decide) (Nat.le_of_ble_eq_true rfl) (Nat.le_of_ble_eq_true rfl)) (fun _ h => h.elim) (fun v9 A9 U9 L9 h9 => ?_)
      obtain ⟨rfl, h7, h8, rfl⟩ := h9
      obtain rfl := h7.symm
      obtain rfl := h8.symm
      refine t_eq (st' := [.int (iI (bI (¬ ((k : Nat) : Int) = U 31 c.toNat)))]) rfl rfl ?_
      refine t_L (L' := [(q, (71, 0), itA (A 30 (100 + c.toNat)) (U 31 c.toNat).toNat k)]) rfl ?_
      refine t_br X (pc1 := 45) (st1 := []) rfl (fun b9 => ?_) (fun b9 => ?_)
      · have c24 : ¬ (¬ ((k : Nat) : Int) = U 31 c.toNat) := bI_f b9
        exact absurd (by omega) c24
      · have c24 : ¬ ((k : Nat) : Int) = U 31 c.toNat := bI_t b9
        refine t_run X 1 (pc1 := 28) (ls1 := [_, _, _]) (st1 := [_]) rfl ?_
        refine t_callF X [0] [] rfl mX9_39_14 (tc_alnextN z.2.1 EV (u := (71, 0)) (k := k) hal hN (by omega) (by decide) (by omega) hF) (fun M _ h => ⟨_, _, h.at (i := 0) rfl⟩) rfl rfl (fun _ h => Or.inr (Or.inr h)) (fun _ h => by cases h) rfl rfl (Nat.le_of_ble_eq_true rfl) (gFit.of hR (by decide) (Nat.le_of_ble_eq_true rfl) (Nat.le_of_ble_eq_true rfl)) (fun _ h => h.elim) (fun v9 A9 U9 L9 h9 => ?_)
        obtain ⟨rfl, h7, h8, rfl⟩ := h9
        obtain rfl := h7.symm
        obtain rfl := h8.symm
        refine t_eq (st' := [.ref (A 14 ((U 32 (2 * c + (k : Int)).toNat).toNat))]) rfl rfl ?_
        refine t_L (L' := [(q, (71, 0), itA (A 30 (100 + c.toNat)) (U 31 c.toNat).toNat (k + 1))]) rfl ?_
        refine t_cast X rfl kX9_43_5 (fun M h _ => ⟨_, _, h.1 (14, ((U 32 (2 * c + (k : Int)).toNat).toNat)) _ (sC_14 (by omega))⟩) ?_
        refine t_run X 3 (pc1 := 39) (ls1 := [_, _, _]) (st1 := [_, _]) rfl ?_
        refine t_eq (st' := [rfA A 13 (-1), .ref (A 14 ((U 32 (2 * c + (k : Int)).toNat).toNat))]) rfl (by rw [rfA_0 (by omega)]) ?_
        refine t_pu9 X (x := (-1)) rfl fX9_45 (by omega) (Or.inr (Or.inl rfl)) (by intro x hx; simp only [List.mem_cons, List.not_mem_nil, or_false] at hx; (try rcases hx with rfl | hx) <;> (try subst hx) <;> simp) ?_
        refine t_run X 1 (pc1 := 18) (ls1 := [_, _, _]) (st1 := []) rfl ?_
        refine t_U (U' := uEo (vS (vS U 15 c.toNat 0) 16 c.toNat (-1)) c (k + 1)) (by rw [uEo]; rfl) ?_
        exact t_forget [true, true, false] rfl (ih (k + 1) (by omega))
  refine t_eq (ls' := [some (.ref (A 13 (c.toNat))), none, none]) (st' := []) rfl rfl ?_
  refine t_run X 2 (pc1 := 2) (ls1 := [_, _, _]) (st1 := [_, _]) rfl ?_
  refine t_pu15 X (hb := by omega) (x := 0) rfl fX9_7 (by first | omega | (show _ < U 43 0; omega)) (Or.inl rfl) (fun _ h => nomatch h) ?_
  refine t_run X 2 (pc1 := 7) (ls1 := [_, _, _]) (st1 := [_, _]) rfl ?_
  refine t_eq (st' := [rfA A 12 (-1), .ref (A 13 (c.toNat))]) rfl (by rw [rfA_0 (by omega)]) ?_
  refine t_pu16 X (x := (-1)) rfl fX9_49 (by first | omega | (show _ < U 43 0; omega)) (Or.inl rfl) (fun _ h => nomatch h) ?_
  refine t_run X 1 (pc1 := 11) (ls1 := [_, _, _]) (st1 := [_]) rfl ?_
  refine t_get X (13, (c.toNat)) (v := .ref (A 30 (100 + c.toNat))) rfl fX9_23 (sC_13 (by first | omega | (show _ < U 43 0; omega))) rfl ?_
  refine t_callV X [] [] rfl mX9_27 (tc_aliterN z.2.1 EV (i := 100 + c.toNat) hal0 hN0 (71, 0) (by decide)) (fun M h _ => gAL_at (h.2.1 (100 + c.toNat) (by unfold alL; first | omega | (show _ ∨ (_ ∧ _ ∧ _ < U 42 0) ∨ (_ ∧ _ < U 43 0); omega)))) rfl rfl (fun _ h => Or.inr (Or.inr h)) (fun _ h => by cases h) rfl rfl (Nat.le_of_ble_eq_true rfl) (gFit.of hR (by decide) (Nat.le_of_ble_eq_true rfl) (Nat.le_of_ble_eq_true rfl)) (fun _ h => h.elim) (fun v9 A9 U9 L9 h9 => ?_)
  obtain ⟨q1, rfl, h7, h8, rfl⟩ := h9
  obtain rfl := h7.symm
  obtain rfl := h8.symm
  refine t_eq (st' := [.ref q1]) rfl rfl ?_
  refine t_L (L' := [(q1, (71, 0), itA (A 30 (100 + c.toNat)) (U 31 c.toNat).toNat 0)]) rfl ?_
  refine t_run X 1 (pc1 := 18) (ls1 := [_, _, _]) (st1 := []) rfl ?_
  exact loop q1 (U 31 c.toNat).toNat 0 (by omega)
