/-! THE SYSTEM's methods walked: loops over calls -/
def uIU (U : gV) (y : Int) : Nat → Int
  | 0 => 0
  | k + 1 => uIU U y k + (if ¬ U 15 k = 0 ∧ U 14 k = y then 1 else 0)
theorem uIU_r (U : gV) (y : Int) (k : Nat) : 0 ≤ uIU U y k ∧ uIU U y k ≤ k := by
  induction k with
  | zero => simp [uIU]
  | succ k ih => rw [uIU]; split <;> omega
def uCN (U : gV) (c : Int) : Nat → Int
  | 0 => -1
  | k + 1 => if 0 ≤ uCN U c k then uCN U c k else if ¬ U 15 k = 0 ∧ U 13 k = c then (k : Int) else -1
theorem uCN_m {U : gV} {c : Int} {k n : Nat} (h : uCN U c k = -1) (hk : k < n) (hp : ¬ U 15 k = 0 ∧ U 13 k = c) : uCN U c n = (k : Int) := by
  induction n with
  | zero => omega
  | succ n ih =>
    rw [uCN]
    by_cases hkn : k = n
    · subst hkn
      rw [if_neg (by omega), if_pos hp]
    · rw [ih (by omega), if_pos (by omega)]
set_option maxHeartbeats 1000000 in
theorem tc_callNow (l : Launch) (EV : gEV) {A : gAd} {U : gV} {c : Int} (hc : inR c) (hI : uI U) : TC l yX1_callNow cX1_callNow 4 (some .int) 5 1 4 EV (tO (70, 0)) [.ref (A 10 0), .int (iI c)] A U [] (fun w A9 U9 L9 => w = some (.int (iI (uCN U c (U 11 0).toNat))) ∧ A9 = A ∧ U9 = U ∧ L9 = L9) (rNo) := by
  refine t_body tbX1_callNow tkX1_callNow (by decide) (by intro v hv; simp only [List.mem_cons, List.not_mem_nil, or_false] at hv; rcases hv with rfl | rfl <;> rfl) (Nat.le_of_ble_eq_true rfl) (fun M0 z Q X hl hR hQ hE => ?_)
  subst hl
  have hu := uIs hI
  unfold uS at hu
  have loop : ∀ (q j k : Nat), (k : Int) + j = U 11 0 → uCN U c k = -1 → gTd z (cX1_callNow, yX1_callNow.cls, 4, (some .int), tbX1_callNow, yX1_callNow.name) EV Q (tO (70, 0)) M0 A U [(q, (70, 0), itA (A 30 2) (alN U 2).toNat k)] 1 4 8 [some (.ref (A 10 0)), some (.int (iI c)), some (.ref q), none] [] := by
    intro q j
    induction j with
    | zero =>
      intro k hk hk2
      refine t_run X 1 (pc1 := 9) (ls1 := [_, _, _, _]) (st1 := [_]) rfl ?_
      refine t_callF X [0] [] rfl mX1_112_14 (tc_alhas z.2.1 EV (i := 2) (k := k) (by unfold alL; omega) (by show 0 ≤ (U 11 0) ∧ (U 11 0) ≤ 100; omega) (by show ((k : Nat) : Int) ≤ (U 11 0); omega)) (fun M _ h => ⟨_, _, h.at (i := 0) rfl⟩) rfl rfl (fun _ h => h.elim) (fun _ _ h => h) rfl rfl (Nat.le_of_ble_eq_true rfl) (gFit.of hR (by decide) (Nat.le_of_ble_eq_true rfl) (Nat.le_of_ble_eq_true rfl)) (fun _ h => h.elim) (fun v9 A9 U9 L9 h9 => ?_)
      obtain ⟨rfl, h7, h8, rfl⟩ := h9
      obtain rfl := h7.symm
      obtain rfl := h8.symm
      refine t_eq (st' := [.int (iI (bI (¬ ((k : Nat) : Int) = (U 11 0))))]) rfl rfl ?_
      refine t_L (L' := [(q, (70, 0), itA (A 30 2) (alN U 2).toNat k)]) rfl ?_
      refine t_br X (pc1 := 50) (st1 := []) rfl (fun b9 => ?_) (fun b9 => ?_)
      · have c14 : ¬ (¬ ((k : Nat) : Int) = (U 11 0)) := bI_f b9
        refine t_run X 1 (pc1 := 51) (ls1 := [_, _, _, _]) (st1 := [_]) rfl ?_
        have e9 : k = (U 11 0).toNat := by omega
        exact t_iret X hQ rfl rfl (by omega) (by omega) ⟨by rw [← e9, hk2], rfl, rfl, rfl⟩
      · have c14 : ¬ ((k : Nat) : Int) = (U 11 0) := bI_t b9
        exact absurd (by omega) c14
    | succ j ih =>
      intro k hk hk2
      have b15 : U 15 k = 0 ∨ U 15 k = 1 := uI15 hI (j := (k : Int)) (by omega) (by omega)
      have b13 : 0 ≤ U 13 k ∧ U 13 k ≤ 5 := uI13 hI (j := (k : Int)) (by omega) (by omega)
      have b14 : 0 ≤ U 14 k ∧ U 14 k ≤ 2 := uI14 hI (j := (k : Int)) (by omega) (by omega)
      refine t_run X 1 (pc1 := 9) (ls1 := [_, _, _, _]) (st1 := [_]) rfl ?_
      refine t_callF X [0] [] rfl mX1_112_14 (tc_alhas z.2.1 EV (i := 2) (k := k) (by unfold alL; omega) (by show 0 ≤ (U 11 0) ∧ (U 11 0) ≤ 100; omega) (by show ((k : Nat) : Int) ≤ (U 11 0); omega)) (fun M _ h => ⟨_, _, h.at (i := 0) rfl⟩) rfl rfl (fun _ h => h.elim) (fun _ _ h => h) rfl rfl (Nat.le_of_ble_eq_true rfl) (gFit.of hR (by decide) (Nat.le_of_ble_eq_true rfl) (Nat.le_of_ble_eq_true rfl)) (fun _ h => h.elim) (fun v9 A9 U9 L9 h9 => ?_)
      obtain ⟨rfl, h7, h8, rfl⟩ := h9
      obtain rfl := h7.symm
      obtain rfl := h8.symm
      refine t_eq (st' := [.int (iI (bI (¬ ((k : Nat) : Int) = (U 11 0))))]) rfl rfl ?_
      refine t_L (L' := [(q, (70, 0), itA (A 30 2) (alN U 2).toNat k)]) rfl ?_
      refine t_br X (pc1 := 50) (st1 := []) rfl (fun b9 => ?_) (fun b9 => ?_)
      · have c14 : ¬ (¬ ((k : Nat) : Int) = (U 11 0)) := bI_f b9
        exact absurd (by omega) c14
      · have c14 : ¬ ((k : Nat) : Int) = (U 11 0) := bI_t b9
        refine t_run X 1 (pc1 := 18) (ls1 := [_, _, _, _]) (st1 := [_]) rfl ?_
        refine t_callF X [0] [] rfl mX1_117_14 (tc_alnext z.2.1 EV (i := 2) (k := k) (by unfold alL; omega) (by show (U 11 0) ≤ 100; omega) (u := (70, 0)) (by decide) (by show ((k : Nat) : Int) < (U 11 0); omega)) (fun M _ h => ⟨_, _, h.at (i := 0) rfl⟩) rfl rfl (fun _ h => h) (fun _ h => by cases h) rfl rfl (Nat.le_of_ble_eq_true rfl) (gFit.of hR (by decide) (Nat.le_of_ble_eq_true rfl) (Nat.le_of_ble_eq_true rfl)) (fun _ h => h.elim) (fun v9 A9 U9 L9 h9 => ?_)
        obtain ⟨rfl, h7, h8, rfl⟩ := h9
        obtain rfl := h7.symm
        obtain rfl := h8.symm
        refine t_eq (st' := [.ref (A 13 k)]) rfl rfl ?_
        refine t_L (L' := [(q, (70, 0), itA (A 30 2) (alN U 2).toNat (k + 1))]) rfl ?_
        refine t_cast X rfl kX1_121_15 (fun M h _ => ⟨_, _, h.1 (13, k) _ (sC_13 (by omega))⟩) ?_
        refine t_run X 2 (pc1 := 28) (ls1 := [_, _, _, _]) (st1 := [_]) rfl ?_
        refine t_get X (13, k) (v := .int (iI (U 15 k))) rfl fX1_123 (sC_13 (by omega)) rfl ?_
        refine t_br X (pc1 := 47) (st1 := []) rfl (fun b9 => ?_) (fun b9 => ?_)
        · have c31 : (U 15 k) = 0 := cEq b9 (by omega) (by omega)
          refine t_run X 1 (pc1 := 8) (ls1 := [_, _, _, _]) (st1 := []) rfl ?_
          exact t_forget [true, true, true, false] rfl (ih (k + 1) (by omega) (by rw [uCN, if_neg (by omega), if_neg (by omega)]))
        · have c31 : ¬ (U 15 k) = 0 := cNq b9 (by omega) (by omega)
          refine t_run X 1 (pc1 := 35) (ls1 := [_, _, _, _]) (st1 := [_]) rfl ?_
          refine t_get X (13, k) (v := .int (iI (U 13 k))) rfl fX1_215 (sC_13 (by omega)) rfl ?_
          refine t_run X 1 (pc1 := 39) (ls1 := [_, _, _, _]) (st1 := [_, _]) rfl ?_
          refine t_br X (pc1 := 47) (st1 := []) rfl (fun b9 => ?_) (fun b9 => ?_)
          · have c39 : ¬ (U 13 k) = c := cNq b9 (by omega) (by omega)
            refine t_run X 1 (pc1 := 8) (ls1 := [_, _, _, _]) (st1 := []) rfl ?_
            exact t_forget [true, true, true, false] rfl (ih (k + 1) (by omega) (by rw [uCN, if_neg (by omega), if_neg (by omega)]))
          · have c39 : (U 13 k) = c := cEq b9 (by omega) (by omega)
            refine t_run X 1 (pc1 := 43) (ls1 := [_, _, _, _]) (st1 := [_]) rfl ?_
            refine t_get X (13, k) (v := .int (iI ((k : Nat) : Int))) rfl fX1_218 (sC_13 (by omega)) rfl ?_
            exact t_iret X hQ rfl rfl (by omega) (by omega) ⟨by rw [uCN_m (n := (U 11 0).toNat) (by omega) (by omega) ⟨by omega, by omega⟩], rfl, rfl, rfl⟩
  refine t_eq (ls' := [some (.ref (A 10 0)), some (.int (iI c)), none, none]) (st' := []) rfl rfl ?_
  refine t_run X 1 (pc1 := 1) (ls1 := [_, _, _, _]) (st1 := [_]) rfl ?_
  refine t_get X (10, 0) (v := .ref (A 30 2)) rfl fX1_35 sC_10 rfl ?_
  refine t_callV X [] [] rfl mX1_108 (tc_aliter z.2.1 EV (i := 2) (by unfold alL; omega) (70, 0) (by decide)) (fun M h _ => gAL_at (h.2.1 2 (by unfold alL; omega))) rfl rfl (fun _ h => h) (fun _ h => by cases h) rfl rfl (Nat.le_of_ble_eq_true rfl) (gFit.of hR (by decide) (Nat.le_of_ble_eq_true rfl) (Nat.le_of_ble_eq_true rfl)) (fun _ h => h.elim) (fun v9 A9 U9 L9 h9 => ?_)
  obtain ⟨q1, rfl, h7, h8, rfl⟩ := h9
  obtain rfl := h7.symm
  obtain rfl := h8.symm
  refine t_eq (st' := [.ref q1]) rfl rfl ?_
  refine t_L (L' := [(q1, (70, 0), itA (A 30 2) (alN U 2).toNat 0)]) rfl ?_
  refine t_run X 1 (pc1 := 8) (ls1 := [_, _, _, _]) (st1 := []) rfl ?_
  exact loop q1 (U 11 0).toNat 0 (by omega) rfl
set_option maxHeartbeats 1000000 in
theorem tc_inUse (l : Launch) (EV : gEV) {A : gAd} {U : gV} {y : Int} (hy : inR y) (hI : uI U) : TC l yX1_inUse cX1_inUse 5 (some .int) 5 1 4 EV (tO (70, 0)) [.ref (A 10 0), .int (iI y)] A U [] (fun w A9 U9 L9 => w = some (.int (iI (uIU U y (U 11 0).toNat))) ∧ A9 = A ∧ U9 = U ∧ L9 = L9) (rNo) := by
  refine t_body tbX1_inUse tkX1_inUse (by decide) (by intro v hv; simp only [List.mem_cons, List.not_mem_nil, or_false] at hv; rcases hv with rfl | rfl <;> rfl) (Nat.le_of_ble_eq_true rfl) (fun M0 z Q X hl hR hQ hE => ?_)
  subst hl
  have hu := uIs hI
  unfold uS at hu
  have loop : ∀ (q j k : Nat), (k : Int) + j = U 11 0 → gTd z (cX1_inUse, yX1_inUse.cls, 5, (some .int), tbX1_inUse, yX1_inUse.name) EV Q (tO (70, 0)) M0 A U [(q, (70, 0), itA (A 30 2) (alN U 2).toNat k)] 1 4 10 [some (.ref (A 10 0)), some (.int (iI y)), some (.int (iI (uIU U y k))), some (.ref q), none] [] := by
    intro q j
    induction j with
    | zero =>
      intro k hk
      have hr := uIU_r U y k
      refine t_run X 1 (pc1 := 11) (ls1 := [_, _, _, _, _]) (st1 := [_]) rfl ?_
      refine t_callF X [0] [] rfl mX1_112_14 (tc_alhas z.2.1 EV (i := 2) (k := k) (by unfold alL; omega) (by show 0 ≤ (U 11 0) ∧ (U 11 0) ≤ 100; omega) (by show ((k : Nat) : Int) ≤ (U 11 0); omega)) (fun M _ h => ⟨_, _, h.at (i := 0) rfl⟩) rfl rfl (fun _ h => h.elim) (fun _ _ h => h) rfl rfl (Nat.le_of_ble_eq_true rfl) (gFit.of hR (by decide) (Nat.le_of_ble_eq_true rfl) (Nat.le_of_ble_eq_true rfl)) (fun _ h => h.elim) (fun v9 A9 U9 L9 h9 => ?_)
      obtain ⟨rfl, h7, h8, rfl⟩ := h9
      obtain rfl := h7.symm
      obtain rfl := h8.symm
      refine t_eq (st' := [.int (iI (bI (¬ ((k : Nat) : Int) = (U 11 0))))]) rfl rfl ?_
      refine t_L (L' := [(q, (70, 0), itA (A 30 2) (alN U 2).toNat k)]) rfl ?_
      refine t_br X (pc1 := 58) (st1 := []) rfl (fun b9 => ?_) (fun b9 => ?_)
      · have c16 : ¬ (¬ ((k : Nat) : Int) = (U 11 0)) := bI_f b9
        refine t_run X 1 (pc1 := 59) (ls1 := [_, _, _, _, _]) (st1 := [_]) rfl ?_
        have e9 : k = (U 11 0).toNat := by omega
        subst e9
        exact t_iret X hQ rfl rfl (by omega) (by omega) ⟨rfl, rfl, rfl, rfl⟩
      · have c16 : ¬ ((k : Nat) : Int) = (U 11 0) := bI_t b9
        exact absurd (by omega) c16
    | succ j ih =>
      intro k hk
      have hr := uIU_r U y k
      have b15 : U 15 k = 0 ∨ U 15 k = 1 := uI15 hI (j := (k : Int)) (by omega) (by omega)
      have b13 : 0 ≤ U 13 k ∧ U 13 k ≤ 5 := uI13 hI (j := (k : Int)) (by omega) (by omega)
      have b14 : 0 ≤ U 14 k ∧ U 14 k ≤ 2 := uI14 hI (j := (k : Int)) (by omega) (by omega)
      refine t_run X 1 (pc1 := 11) (ls1 := [_, _, _, _, _]) (st1 := [_]) rfl ?_
      refine t_callF X [0] [] rfl mX1_112_14 (tc_alhas z.2.1 EV (i := 2) (k := k) (by unfold alL; omega) (by show 0 ≤ (U 11 0) ∧ (U 11 0) ≤ 100; omega) (by show ((k : Nat) : Int) ≤ (U 11 0); omega)) (fun M _ h => ⟨_, _, h.at (i := 0) rfl⟩) rfl rfl (fun _ h => h.elim) (fun _ _ h => h) rfl rfl (Nat.le_of_ble_eq_true rfl) (gFit.of hR (by decide) (Nat.le_of_ble_eq_true rfl) (Nat.le_of_ble_eq_true rfl)) (fun _ h => h.elim) (fun v9 A9 U9 L9 h9 => ?_)
      obtain ⟨rfl, h7, h8, rfl⟩ := h9
      obtain rfl := h7.symm
      obtain rfl := h8.symm
      refine t_eq (st' := [.int (iI (bI (¬ ((k : Nat) : Int) = (U 11 0))))]) rfl rfl ?_
      refine t_L (L' := [(q, (70, 0), itA (A 30 2) (alN U 2).toNat k)]) rfl ?_
      refine t_br X (pc1 := 58) (st1 := []) rfl (fun b9 => ?_) (fun b9 => ?_)
      · have c16 : ¬ (¬ ((k : Nat) : Int) = (U 11 0)) := bI_f b9
        exact absurd (by omega) c16
      · have c16 : ¬ ((k : Nat) : Int) = (U 11 0) := bI_t b9
        refine t_run X 1 (pc1 := 20) (ls1 := [_, _, _, _, _]) (st1 := [_]) rfl ?_
        refine t_callF X [0] [] rfl mX1_117_14 (tc_alnext z.2.1 EV (i := 2) (k := k) (by unfold alL; omega) (by show (U 11 0) ≤ 100; omega) (u := (70, 0)) (by decide) (by show ((k : Nat) : Int) < (U 11 0); omega)) (fun M _ h => ⟨_, _, h.at (i := 0) rfl⟩) rfl rfl (fun _ h => h) (fun _ h => by cases h) rfl rfl (Nat.le_of_ble_eq_true rfl) (gFit.of hR (by decide) (Nat.le_of_ble_eq_true rfl) (Nat.le_of_ble_eq_true rfl)) (fun _ h => h.elim) (fun v9 A9 U9 L9 h9 => ?_)
        obtain ⟨rfl, h7, h8, rfl⟩ := h9
        obtain rfl := h7.symm
        obtain rfl := h8.symm
        refine t_eq (st' := [.ref (A 13 k)]) rfl rfl ?_
        refine t_L (L' := [(q, (70, 0), itA (A 30 2) (alN U 2).toNat (k + 1))]) rfl ?_
        refine t_cast X rfl kX1_121_15 (fun M h _ => ⟨_, _, h.1 (13, k) _ (sC_13 (by omega))⟩) ?_
        refine t_run X 3 (pc1 := 33) (ls1 := [_, _, _, _, _]) (st1 := [_, _]) rfl ?_
        refine t_get X (13, k) (v := .int (iI (U 15 k))) rfl fX1_123 (sC_13 (by omega)) rfl ?_
        refine t_br X (pc1 := 52) (st1 := [_]) rfl (fun b9 => ?_) (fun b9 => ?_)
        · have c36 : (U 15 k) = 0 := cEq b9 (by omega) (by omega)
          refine t_run X 4 (pc1 := 10) (ls1 := [_, _, _, _, _]) (st1 := []) rfl ?_
          refine t_eq (ls' := [some (.ref (A 10 0)), some (.int (iI y)), some (.int (iI ((uIU U y k) + 0))), some (.ref q), some (.ref (A 13 k))]) (st' := []) (by simp only [iI_add, iI_sub, iI_mul, iI_neg]) (by simp only [iI_add, iI_sub, iI_mul, iI_neg]) ?_
          have e9 : uIU U y (k + 1) = ((uIU U y k) + 0) := by rw [uIU]; first | rw [if_pos (by omega)] | rw [if_neg (by omega)]
          have h9 := ih (k + 1) (by omega)
          rw [e9] at h9
          exact t_forget [true, true, true, true, false] rfl h9
        · have c36 : ¬ (U 15 k) = 0 := cNq b9 (by omega) (by omega)
          refine t_run X 1 (pc1 := 41) (ls1 := [_, _, _, _, _]) (st1 := [_, _]) rfl ?_
          refine t_get X (13, k) (v := .int (iI (U 14 k))) rfl fX1_127 (sC_13 (by omega)) rfl ?_
          refine t_run X 1 (pc1 := 45) (ls1 := [_, _, _, _, _]) (st1 := [_, _, _]) rfl ?_
          refine t_br X (pc1 := 52) (st1 := [_]) rfl (fun b9 => ?_) (fun b9 => ?_)
          · have c45 : ¬ (U 14 k) = y := cNq b9 (by omega) (by omega)
            refine t_run X 4 (pc1 := 10) (ls1 := [_, _, _, _, _]) (st1 := []) rfl ?_
            refine t_eq (ls' := [some (.ref (A 10 0)), some (.int (iI y)), some (.int (iI ((uIU U y k) + 0))), some (.ref q), some (.ref (A 13 k))]) (st' := []) (by simp only [iI_add, iI_sub, iI_mul, iI_neg]) (by simp only [iI_add, iI_sub, iI_mul, iI_neg]) ?_
            have e9 : uIU U y (k + 1) = ((uIU U y k) + 0) := by rw [uIU]; first | rw [if_pos (by omega)] | rw [if_neg (by omega)]
            have h9 := ih (k + 1) (by omega)
            rw [e9] at h9
            exact t_forget [true, true, true, true, false] rfl h9
          · have c45 : (U 14 k) = y := cEq b9 (by omega) (by omega)
            refine t_run X 5 (pc1 := 10) (ls1 := [_, _, _, _, _]) (st1 := []) rfl ?_
            refine t_eq (ls' := [some (.ref (A 10 0)), some (.int (iI y)), some (.int (iI ((uIU U y k) + 1))), some (.ref q), some (.ref (A 13 k))]) (st' := []) (by simp only [iI_add, iI_sub, iI_mul, iI_neg]) (by simp only [iI_add, iI_sub, iI_mul, iI_neg]) ?_
            have e9 : uIU U y (k + 1) = ((uIU U y k) + 1) := by rw [uIU]; first | rw [if_pos (by omega)] | rw [if_neg (by omega)]
            have h9 := ih (k + 1) (by omega)
            rw [e9] at h9
            exact t_forget [true, true, true, true, false] rfl h9
  refine t_eq (ls' := [some (.ref (A 10 0)), some (.int (iI y)), none, none, none]) (st' := []) rfl rfl ?_
  refine t_run X 3 (pc1 := 3) (ls1 := [_, _, _, _, _]) (st1 := [_]) rfl ?_
  refine t_get X (10, 0) (v := .ref (A 30 2)) rfl fX1_35 sC_10 rfl ?_
  refine t_callV X [] [] rfl mX1_108 (tc_aliter z.2.1 EV (i := 2) (by unfold alL; omega) (70, 0) (by decide)) (fun M h _ => gAL_at (h.2.1 2 (by unfold alL; omega))) rfl rfl (fun _ h => h) (fun _ h => by cases h) rfl rfl (Nat.le_of_ble_eq_true rfl) (gFit.of hR (by decide) (Nat.le_of_ble_eq_true rfl) (Nat.le_of_ble_eq_true rfl)) (fun _ h => h.elim) (fun v9 A9 U9 L9 h9 => ?_)
  obtain ⟨q1, rfl, h7, h8, rfl⟩ := h9
  obtain rfl := h7.symm
  obtain rfl := h8.symm
  refine t_eq (st' := [.ref q1]) rfl rfl ?_
  refine t_L (L' := [(q1, (70, 0), itA (A 30 2) (alN U 2).toNat 0)]) rfl ?_
  refine t_run X 1 (pc1 := 10) (ls1 := [_, _, _, _, _]) (st1 := []) rfl ?_
  exact loop q1 (U 11 0).toNat 0 (by omega)
