/-! THE SYSTEM's methods walked: arguments, questions -/
theorem gAL_at {EV : gEV} {M : gM} {i a n : Nat} {f : Nat → Nat} (h : gAL EV M i a n f) : ∃ t fs, M a = some (t, .inr (1, fs)) := by
  obtain ⟨d, N, p, h1, -⟩ := h
  exact ⟨_, _, h1⟩
theorem gLk_at {M : gM} {i a n : Nat} {f : Nat → Nat} (h : gLk M i a n f) : ∃ t fs, M a = some (t, .inr (2, fs)) := by
  obtain ⟨m, ns, -, -, h1, -⟩ := h
  exact ⟨_, _, h1⟩
theorem alN_b {U : gV} (b : Nat) (h : b < 90) : alN U (10 + b) = U 23 b := by
  unfold alN
  rw [if_neg (by omega), if_neg (by omega), if_neg (by omega), if_neg (by omega), if_neg (by omega), if_neg (by omega), if_pos (by omega), show 10 + b - 10 = b by omega]
theorem alF_b {A : gAd} {U : gV} (b j : Nat) (h : b < 90) : alF A U (10 + b) j = A 11 (U 24 (30 * b + j)).toNat := by
  unfold alF
  rw [if_neg (by omega), if_neg (by omega), if_neg (by omega), if_neg (by omega), if_neg (by omega), if_neg (by omega), if_pos (by omega), show 10 + b - 10 = b by omega]
theorem tc_algetB (l : Launch) (EV : gEV) {A : gAd} {U : gV} {b : Nat} (hb : (b : Int) < U 42 0) (hb9 : b < 90) (hn : U 23 b ≤ 100) {x : Int} (hx : 0 ≤ x ∧ x < U 23 b) : TC l yJ2_get cJ2_get 2 (some (.object "java/lang/Object")) 4 0 0 EV tF [.ref (A 30 (10 + b)), .int (iI x)] A U [] (rV (some (.ref (A 11 (U 24 (30 * b + x.toNat)).toNat))) A U []) rNo := by
  have hN : alN U (10 + b) = U 23 b := by
    unfold alN
    rw [if_neg (by omega), if_neg (by omega), if_neg (by omega), if_neg (by omega), if_neg (by omega), if_neg (by omega), if_pos (by omega), show 10 + b - 10 = b by omega]
  have h := tc_alget l EV (A := A) (U := U) (i := 10 + b) (by unfold alL; omega) (by rw [hN]; exact hn) (x := x) (by rw [hN]; exact hx)
  rw [alF_b b x.toNat hb9] at h
  exact h
theorem alN_o {U : gV} (c : Nat) : alN U (100 + c) = U 31 c := by
  unfold alN
  rw [if_neg (by omega), if_neg (by omega), if_neg (by omega), if_neg (by omega), if_neg (by omega), if_neg (by omega), if_neg (by omega), show 100 + c - 100 = c by omega]
theorem tc_alsizeN (l : Launch) (EV : gEV) {A : gAd} {U : gV} {i : Nat} (hi : alL U i) {n : Int} (h : alN U i = n) (hn : 0 ≤ n) : TC l yJ2_size cJ2_size 1 (some .int) 1 0 0 EV tF [.ref (A 30 i)] A U [] (rV (some (.int (iI n))) A U []) rNo := by
  subst h
  exact tc_alsize l EV hi hn
theorem bI_of {x : Int} (h : x = 0 ∨ x = 1) : bI (¬ x = 0) = x := by
  rcases h with rfl | rfl
  · rw [bI_0 (by decide)]
  · rw [bI_1 (by decide)]
theorem llN_t {U : gV} {i : Nat} (h : i < 15) : llN U i = U 6 i := if_pos h
theorem llN_r {U : gV} (r : Nat) : llN U (15 + r) = U 28 r := by
  unfold llN
  rw [if_neg (by omega), show 15 + r - 15 = r by omega]
theorem tc_llsizeN (l : Launch) (EV : gEV) {A : gAd} {U : gV} {i : Nat} (hi : llL U i) {n : Int} (h : llN U i = n) (hn : 0 ≤ n) : TC l yJ7_size cJ7_size 1 (some .int) 1 0 0 EV tF [.ref (A 24 i)] A U [] (rV (some (.int (iI n))) A U []) rNo := by
  subst h
  exact tc_llsize l EV hi hn
theorem tc_llgetT (l : Launch) (EV : gEV) {A : gAd} {U : gV} {i : Nat} (hi : i < 15) {x : Int} (hx : 0 ≤ x ∧ x < U 6 i) : TC l yJ7_get cJ7_get 2 (some (.object "java/lang/Object")) 3 0 0 EV tF [.ref (A 24 i), .int (iI x)] A U [] (rV (some (.ref (A 11 (U 7 (6 * i + x.toNat)).toNat))) A U []) rNo := by
  have h := tc_llget l EV (A := A) (U := U) (i := i) (Or.inl hi) (x := x) (by rw [llN_t hi]; exact hx)
  unfold llF at h
  rw [if_pos hi] at h
  exact h
section
variable {z : gZ} {S : gS} {EV : gEV} {Q : State → Prop} {M0 : gM} {T : gTag → Prop} {A : gAd} {U : gV} {L : gLL} {k n pc idx : Nat} {ls : List (Option Value)} {st : List Value}
theorem t_idivU (X : CX z S EV) {x y : Int} (hT : S.2.2.2.2.1 pc = some (.idiv, 1)) (hx : 0 ≤ x ∧ x ≤ 2147483647) (hy : 0 < y ∧ y ≤ 2147483647) (kk : gTd z S EV Q T M0 A U L k n (pc + 1) ls (.int (iI (x / y)) :: st)) : gTd z S EV Q T M0 A U L k n pc ls (.int (iI y) :: .int (iI x) :: st) := by
  intro M h1 h2 h3
  obtain ⟨a, rfl⟩ : ∃ a : Nat, x = a := ⟨x.toNat, by omega⟩
  obtain ⟨b, rfl⟩ : ∃ b : Nat, y = b := ⟨y.toNat, by omega⟩
  have hr := pk_div (a := a) (d := b) (by omega) (by omega) (by omega)
  have e1 : nI a = iI a := iI_ofNat a
  have e2 : nI b = iI b := iI_ofNat b
  have e3 : nI (a / b) = iI ((a : Int) / b) := by rw [show (a : Int) / b = ((a / b : Nat) : Int) from rfl]; exact iI_ofNat _
  rw [e1, e2, e3] at hr
  refine g_idiv X hT (fun h => ?_) (by rw [hr]; exact kk M h1 h2 h3)
  have := (iI_eq (a := b) (b := 0) (by omega) (by omega)).mp h
  omega
theorem t_iremU (X : CX z S EV) {x y : Int} (hT : S.2.2.2.2.1 pc = some (.irem, 1)) (hx : 0 ≤ x ∧ x ≤ 2147483647) (hy : 0 < y ∧ y ≤ 2147483647) (kk : gTd z S EV Q T M0 A U L k n (pc + 1) ls (.int (iI (x % y)) :: st)) : gTd z S EV Q T M0 A U L k n pc ls (.int (iI y) :: .int (iI x) :: st) := by
  intro M h1 h2 h3
  obtain ⟨a, rfl⟩ : ∃ a : Nat, x = a := ⟨x.toNat, by omega⟩
  obtain ⟨b, rfl⟩ : ∃ b : Nat, y = b := ⟨y.toNat, by omega⟩
  have hr := pk_rem (a := a) (d := b) (by omega) (by omega) (by omega)
  have e1 : nI a = iI a := iI_ofNat a
  have e2 : nI b = iI b := iI_ofNat b
  have e3 : nI (a % b) = iI ((a : Int) % b) := by rw [show (a : Int) % b = ((a % b : Nat) : Int) from rfl]; exact iI_ofNat _
  rw [e1, e2, e3] at hr
  refine g_irem X (v := 0) hT (fun h => ?_) (by rw [hr]; exact kk M h1 h2 h3)
  have := (iI_eq (a := b) (b := 0) (by omega) (by omega)).mp h
  omega
theorem t_cast (X : CX z S EV) {ci b : Nat} {nm : String} (hT : S.2.2.2.2.1 pc = some (.checkcast idx, 3)) (C : gCa S.2.1 idx ci nm) (hb : ∀ M, TD EV M A U → gL M L → ∃ t fs, M b = some (t, .inr (ci, fs))) (kk : gTd z S EV Q T M0 A U L k n (pc + 3) ls (.ref b :: st)) : gTd z S EV Q T M0 A U L k n pc ls (.ref b :: st) :=
  fun M h1 h2 h3 => by
    obtain ⟨t, fs, hM⟩ := hb M h1 h2
    exact g_cast X hT C hM (kk M h1 h2 h3)
end
set_option maxHeartbeats 1000000 in
theorem tc_trackOf (l : Launch) (EV : gEV) {A : gAd} {U : gV} {y t : Int} (hy : inR y) (ht : inR t) : TC l yX1_trackOf cX1_trackOf 2 (some .int) 7 2 12 EV tF [.int (iI y), .int (iI t)] A U [] (fun w A9 U9 L9 => rV (some (.int (iI (5 * y + t)))) A U [] w A9 U9 L9 ∧ isTrk y t) (fun E => E = cIAE ∧ ¬ isTrk y t) := by
  refine t_body tbX1_trackOf tkX1_trackOf (by decide) (by intro v hv; simp only [List.mem_cons, List.not_mem_nil, or_false] at hv; rcases hv with rfl | rfl <;> rfl) (Nat.le_of_ble_eq_true rfl) (fun M0 z Q X hl hR hQ hE => ?_)
  subst hl
  refine t_eq (ls' := [some (.int (iI y)), some (.int (iI t))]) (st' := []) rfl rfl ?_
  refine t_run X 3 (pc1 := 3) (ls1 := [_, _]) (st1 := [_, _, _]) rfl ?_
  refine t_callS X [] [] rfl mX1_139 (tc_limited z.2.1 EV (v := y) (lo := 0) (hi := 2) (by omega) (by omega) (by omega)) rfl rfl (fun _ h => h.elim) (fun _ h => by cases h) rfl rfl (Nat.le_of_ble_eq_true rfl) (gFit.of hR (by decide) (Nat.le_of_ble_eq_true rfl) (Nat.le_of_ble_eq_true rfl)) (fun E h => t_out X hQ hE (by omega) (by omega) ⟨h.1, by omega⟩) (fun v9 A9 U9 L9 h9 => ?_)
  obtain ⟨⟨rfl, h7, h8, rfl⟩, l3⟩ := h9
  obtain rfl := h7.symm
  obtain rfl := h8.symm
  refine t_eq (st' := []) rfl rfl ?_
  refine t_run X 3 (pc1 := 9) (ls1 := [_, _]) (st1 := [_, _, _]) rfl ?_
  refine t_callS X [] [] rfl mX1_139 (tc_limited z.2.1 EV (v := t) (lo := 0) (hi := 4) (by omega) (by omega) (by omega)) rfl rfl (fun _ h => h.elim) (fun _ h => by cases h) rfl rfl (Nat.le_of_ble_eq_true rfl) (gFit.of hR (by decide) (Nat.le_of_ble_eq_true rfl) (Nat.le_of_ble_eq_true rfl)) (fun E h => t_out X hQ hE (by omega) (by omega) ⟨h.1, by omega⟩) (fun v9 A9 U9 L9 h9 => ?_)
  obtain ⟨⟨rfl, h7, h8, rfl⟩, l9⟩ := h9
  obtain rfl := h7.symm
  obtain rfl := h8.symm
  refine t_eq (st' := []) rfl rfl ?_
  refine t_run X 5 (pc1 := 17) (ls1 := [_, _]) (st1 := [_]) rfl ?_
  refine t_eq (ls' := [some (.int (iI y)), some (.int (iI t))]) (st' := [.int (iI ((5 * y) + t))]) (by simp only [iI_add, iI_sub, iI_mul, iI_neg]) (by simp only [iI_add, iI_sub, iI_mul, iI_neg]) ?_
  exact t_iret X hQ rfl rfl (by omega) (by omega) ⟨⟨rfl, rfl, rfl, rfl⟩, by omega⟩
set_option maxHeartbeats 1000000 in
theorem tc_unlike (l : Launch) (EV : gEV) {A : gAd} {U : gV} {x y m : Int} (hx : inR x) (hy : inR y) (hm : 0 ≤ m ∧ m ≤ 100) : TC l yX1_unlike cX1_unlike 3 none 7 3 18 EV tF [.int (iI x), .int (iI y), .int (iI m)] A U [] (fun w A9 U9 L9 => rV none A U [] w A9 U9 L9 ∧ (0 ≤ x ∧ x ≤ m - 1) ∧ (0 ≤ y ∧ y ≤ m - 1) ∧ ¬ x = y) (fun E => E = cIAE ∧ ¬ ((0 ≤ x ∧ x ≤ m - 1) ∧ (0 ≤ y ∧ y ≤ m - 1) ∧ ¬ x = y)) := by
  refine t_body tbX1_unlike tkX1_unlike (by decide) (by intro v hv; simp only [List.mem_cons, List.not_mem_nil, or_false] at hv; rcases hv with rfl | rfl | rfl <;> rfl) (Nat.le_of_ble_eq_true rfl) (fun M0 z Q X hl hR hQ hE => ?_)
  subst hl
  refine t_eq (ls' := [some (.int (iI x)), some (.int (iI y)), some (.int (iI m))]) (st' := []) rfl rfl ?_
  refine t_run X 5 (pc1 := 5) (ls1 := [_, _, _]) (st1 := [_, _, _]) rfl ?_
  refine t_eq (ls' := [some (.int (iI x)), some (.int (iI y)), some (.int (iI m))]) (st' := [.int (iI (m - 1)), .int (iI 0), .int (iI x)]) (by simp only [iI_add, iI_sub, iI_mul, iI_neg]) (by simp only [iI_add, iI_sub, iI_mul, iI_neg]) ?_
  refine t_callS X [] [] rfl mX1_139 (tc_limited z.2.1 EV (v := x) (lo := 0) (hi := (m - 1)) (by omega) (by omega) (by omega)) rfl rfl (fun _ h => h.elim) (fun _ h => by cases h) rfl rfl (Nat.le_of_ble_eq_true rfl) (gFit.of hR (by decide) (Nat.le_of_ble_eq_true rfl) (Nat.le_of_ble_eq_true rfl)) (fun E h => t_out X hQ hE (by omega) (by omega) ⟨h.1, by have h2 := h.2; omega⟩) (fun v9 A9 U9 L9 h9 => ?_)
  obtain ⟨⟨rfl, h7, h8, rfl⟩, l5⟩ := h9
  obtain rfl := h7.symm
  obtain rfl := h8.symm
  refine t_eq (st' := []) rfl rfl ?_
  refine t_run X 5 (pc1 := 13) (ls1 := [_, _, _]) (st1 := [_, _, _]) rfl ?_
  refine t_eq (ls' := [some (.int (iI x)), some (.int (iI y)), some (.int (iI m))]) (st' := [.int (iI (m - 1)), .int (iI 0), .int (iI y)]) (by simp only [iI_add, iI_sub, iI_mul, iI_neg]) (by simp only [iI_add, iI_sub, iI_mul, iI_neg]) ?_
  refine t_callS X [] [] rfl mX1_139 (tc_limited z.2.1 EV (v := y) (lo := 0) (hi := (m - 1)) (by omega) (by omega) (by omega)) rfl rfl (fun _ h => h.elim) (fun _ h => by cases h) rfl rfl (Nat.le_of_ble_eq_true rfl) (gFit.of hR (by decide) (Nat.le_of_ble_eq_true rfl) (Nat.le_of_ble_eq_true rfl)) (fun E h => t_out X hQ hE (by omega) (by omega) ⟨h.1, by have h2 := h.2; omega⟩) (fun v9 A9 U9 L9 h9 => ?_)
  obtain ⟨⟨rfl, h7, h8, rfl⟩, l13⟩ := h9
  obtain rfl := h7.symm
  obtain rfl := h8.symm
  refine t_eq (st' := []) rfl rfl ?_
  refine t_run X 2 (pc1 := 18) (ls1 := [_, _, _]) (st1 := [_, _]) rfl ?_
  refine t_br X (pc1 := 25) (st1 := []) rfl (fun b9 => ?_) (fun b9 => ?_)
  · have c18 : ¬ x = y := cNq b9 (by omega) (by omega)
    refine t_run X 3 (pc1 := 28) (ls1 := [_, _, _]) (st1 := [_, _, _]) rfl ?_
    refine t_callS X [] [] rfl mX1_139 (tc_limited z.2.1 EV (v := 0) (lo := 0) (hi := 0) (by omega) (by omega) (by omega)) rfl rfl (fun _ h => h.elim) (fun _ h => by cases h) rfl rfl (Nat.le_of_ble_eq_true rfl) (gFit.of hR (by decide) (Nat.le_of_ble_eq_true rfl) (Nat.le_of_ble_eq_true rfl)) (fun E h => t_out X hQ hE (by omega) (by omega) ⟨h.1, by have h2 := h.2; omega⟩) (fun v9 A9 U9 L9 h9 => ?_)
    obtain ⟨⟨rfl, h7, h8, rfl⟩, l28⟩ := h9
    obtain rfl := h7.symm
    obtain rfl := h8.symm
    refine t_eq (st' := []) rfl rfl ?_
    exact t_vret X hQ rfl rfl (by omega) (by omega) ⟨⟨rfl, rfl, rfl, rfl⟩, by omega⟩
  · have c18 : x = y := cEq b9 (by omega) (by omega)
    refine t_run X 4 (pc1 := 28) (ls1 := [_, _, _]) (st1 := [_, _, _]) rfl ?_
    refine t_callS X [] [] rfl mX1_139 (tc_limited z.2.1 EV (v := (-1)) (lo := 0) (hi := 0) (by omega) (by omega) (by omega)) rfl rfl (fun _ h => h.elim) (fun _ h => by cases h) rfl rfl (Nat.le_of_ble_eq_true rfl) (gFit.of hR (by decide) (Nat.le_of_ble_eq_true rfl) (Nat.le_of_ble_eq_true rfl)) (fun E h => t_out X hQ hE (by omega) (by omega) ⟨h.1, by have h2 := h.2; omega⟩) (fun v9 A9 U9 L9 h9 => ?_)
    obtain ⟨⟨rfl, h7, h8, rfl⟩, l28⟩ := h9
    obtain rfl := h7.symm
    obtain rfl := h8.symm
    refine t_eq (st' := []) rfl rfl ?_
    exact t_vret X hQ rfl rfl (by omega) (by omega) ⟨⟨rfl, rfl, rfl, rfl⟩, by omega⟩
set_option maxHeartbeats 1000000 in
theorem tc_wagonAt (l : Launch) (EV : gEV) {A : gAd} {U : gV} {x : Int} (hx : inR x) (hI : uI U) : TC l yX1_wagonAt cX1_wagonAt 2 (some (.object "TrunkYards$Wagon")) 7 1 6 EV tF [.ref (A 10 0), .int (iI x)] A U [] (fun w A9 U9 L9 => rV (some (.ref (A 11 x.toNat))) A U [] w A9 U9 L9 ∧ 0 ≤ x ∧ x < U 2 0) (fun E => E = cIOB ∧ ¬ (0 ≤ x ∧ x < U 2 0)) := by
  refine t_body tbX1_wagonAt tkX1_wagonAt (by decide) (by intro v hv; simp only [List.mem_cons, List.not_mem_nil, or_false] at hv; rcases hv with rfl | rfl <;> rfl) (Nat.le_of_ble_eq_true rfl) (fun M0 z Q X hl hR hQ hE => ?_)
  subst hl
  have hu := uIs hI
  unfold uS at hu
  refine t_eq (ls' := [some (.ref (A 10 0)), some (.int (iI x))]) (st' := []) rfl rfl ?_
  refine t_run X 2 (pc1 := 2) (ls1 := [_, _]) (st1 := [_, _]) rfl ?_
  refine t_get X (10, 0) (v := .ref (A 30 1)) rfl fX1_16 sC_10 rfl ?_
  refine t_callV X [] [] rfl mX1_146 (tc_alsize z.2.1 EV (i := 1) (by unfold alL; omega) (by show 0 ≤ (U 2 0); omega)) (fun M h _ => gAL_at (h.2.1 1 (by unfold alL; omega))) rfl rfl (fun _ h => h.elim) (fun _ _ h => h) rfl rfl (Nat.le_of_ble_eq_true rfl) (gFit.of hR (by decide) (Nat.le_of_ble_eq_true rfl) (Nat.le_of_ble_eq_true rfl)) (fun _ h => h.elim) (fun v9 A9 U9 L9 h9 => ?_)
  obtain ⟨rfl, h7, h8, rfl⟩ := h9
  obtain rfl := h7.symm
  obtain rfl := h8.symm
  refine t_eq (st' := [.int (iI (U 2 0)), .int (iI x)]) rfl rfl ?_
  refine t_callS X [] [] rfl mX1_147 (tc_there z.2.1 EV (v := x) (m := (U 2 0)) (by omega) (by omega)) rfl rfl (fun _ h => h.elim) (fun _ h => by cases h) rfl rfl (Nat.le_of_ble_eq_true rfl) (gFit.of hR (by decide) (Nat.le_of_ble_eq_true rfl) (Nat.le_of_ble_eq_true rfl)) (fun E h => t_out X hQ hE (by omega) (by omega) ⟨h.1, by have h2 := h.2; omega⟩) (fun v9 A9 U9 L9 h9 => ?_)
  obtain ⟨⟨rfl, h7, h8, rfl⟩, l8⟩ := h9
  obtain rfl := h7.symm
  obtain rfl := h8.symm
  refine t_eq (st' := []) rfl rfl ?_
  refine t_run X 1 (pc1 := 12) (ls1 := [_, _]) (st1 := [_]) rfl ?_
  refine t_get X (10, 0) (v := .ref (A 30 1)) rfl fX1_16 sC_10 rfl ?_
  refine t_run X 1 (pc1 := 16) (ls1 := [_, _]) (st1 := [_, _]) rfl ?_
  refine t_callV X [] [] rfl mX1_74 (tc_alget z.2.1 EV (i := 1) (by unfold alL; omega) (by show (U 2 0) ≤ 100; omega) (x := x) (by show 0 ≤ x ∧ x < (U 2 0); omega)) (fun M h _ => gAL_at (h.2.1 1 (by unfold alL; omega))) rfl rfl (fun _ h => h.elim) (fun _ _ h => h) rfl rfl (Nat.le_of_ble_eq_true rfl) (gFit.of hR (by decide) (Nat.le_of_ble_eq_true rfl) (Nat.le_of_ble_eq_true rfl)) (fun _ h => h.elim) (fun v9 A9 U9 L9 h9 => ?_)
  obtain ⟨rfl, h7, h8, rfl⟩ := h9
  obtain rfl := h7.symm
  obtain rfl := h8.symm
  refine t_eq (st' := [.ref (A 11 (x.toNat))]) rfl rfl ?_
  refine t_cast X rfl kX1_69_7 (fun M h _ => ⟨_, _, h.1 (11, (x.toNat)) _ (sC_11 (by omega))⟩) ?_
  exact t_aret X hQ rfl rfl (Or.inl ⟨_, rfl⟩) (Or.inr ⟨_, rfl⟩) (by omega) (by omega) ⟨⟨rfl, rfl, rfl, rfl⟩, by omega⟩
set_option maxHeartbeats 1000000 in
theorem tc_named (l : Launch) (EV : gEV) {A : gAd} {U : gV} {x : Int} (hx : inR x) (hI : uI U) : TC l yX1_named cX1_named 2 (some (.object "TrunkYards$Call")) 7 1 6 EV tF [.ref (A 10 0), .int (iI x)] A U [] (fun w A9 U9 L9 => rV (some (.ref (A 13 x.toNat))) A U [] w A9 U9 L9 ∧ 0 ≤ x ∧ x < U 11 0) (fun E => E = cIOB ∧ ¬ (0 ≤ x ∧ x < U 11 0)) := by
  refine t_body tbX1_named tkX1_named (by decide) (by intro v hv; simp only [List.mem_cons, List.not_mem_nil, or_false] at hv; rcases hv with rfl | rfl <;> rfl) (Nat.le_of_ble_eq_true rfl) (fun M0 z Q X hl hR hQ hE => ?_)
  subst hl
  have hu := uIs hI
  unfold uS at hu
  refine t_eq (ls' := [some (.ref (A 10 0)), some (.int (iI x))]) (st' := []) rfl rfl ?_
  refine t_run X 2 (pc1 := 2) (ls1 := [_, _]) (st1 := [_, _]) rfl ?_
  refine t_get X (10, 0) (v := .ref (A 30 2)) rfl fX1_35 sC_10 rfl ?_
  refine t_callV X [] [] rfl mX1_146 (tc_alsize z.2.1 EV (i := 2) (by unfold alL; omega) (by show 0 ≤ (U 11 0); omega)) (fun M h _ => gAL_at (h.2.1 2 (by unfold alL; omega))) rfl rfl (fun _ h => h.elim) (fun _ _ h => h) rfl rfl (Nat.le_of_ble_eq_true rfl) (gFit.of hR (by decide) (Nat.le_of_ble_eq_true rfl) (Nat.le_of_ble_eq_true rfl)) (fun _ h => h.elim) (fun v9 A9 U9 L9 h9 => ?_)
  obtain ⟨rfl, h7, h8, rfl⟩ := h9
  obtain rfl := h7.symm
  obtain rfl := h8.symm
  refine t_eq (st' := [.int (iI (U 11 0)), .int (iI x)]) rfl rfl ?_
  refine t_callS X [] [] rfl mX1_147 (tc_there z.2.1 EV (v := x) (m := (U 11 0)) (by omega) (by omega)) rfl rfl (fun _ h => h.elim) (fun _ h => by cases h) rfl rfl (Nat.le_of_ble_eq_true rfl) (gFit.of hR (by decide) (Nat.le_of_ble_eq_true rfl) (Nat.le_of_ble_eq_true rfl)) (fun E h => t_out X hQ hE (by omega) (by omega) ⟨h.1, by have h2 := h.2; omega⟩) (fun v9 A9 U9 L9 h9 => ?_)
  obtain ⟨⟨rfl, h7, h8, rfl⟩, l8⟩ := h9
  obtain rfl := h7.symm
  obtain rfl := h8.symm
  refine t_eq (st' := []) rfl rfl ?_
  refine t_run X 1 (pc1 := 12) (ls1 := [_, _]) (st1 := [_]) rfl ?_
  refine t_get X (10, 0) (v := .ref (A 30 2)) rfl fX1_35 sC_10 rfl ?_
  refine t_run X 1 (pc1 := 16) (ls1 := [_, _]) (st1 := [_, _]) rfl ?_
  refine t_callV X [] [] rfl mX1_74 (tc_alget z.2.1 EV (i := 2) (by unfold alL; omega) (by show (U 11 0) ≤ 100; omega) (x := x) (by show 0 ≤ x ∧ x < (U 11 0); omega)) (fun M h _ => gAL_at (h.2.1 2 (by unfold alL; omega))) rfl rfl (fun _ h => h.elim) (fun _ _ h => h) rfl rfl (Nat.le_of_ble_eq_true rfl) (gFit.of hR (by decide) (Nat.le_of_ble_eq_true rfl) (Nat.le_of_ble_eq_true rfl)) (fun _ h => h.elim) (fun v9 A9 U9 L9 h9 => ?_)
  obtain ⟨rfl, h7, h8, rfl⟩ := h9
  obtain rfl := h7.symm
  obtain rfl := h8.symm
  refine t_eq (st' := [.ref (A 13 (x.toNat))]) rfl rfl ?_
  refine t_cast X rfl kX1_121_15 (fun M h _ => ⟨_, _, h.1 (13, (x.toNat)) _ (sC_13 (by omega))⟩) ?_
  exact t_aret X hQ rfl rfl (Or.inl ⟨_, rfl⟩) (Or.inr ⟨_, rfl⟩) (by omega) (by omega) ⟨⟨rfl, rfl, rfl, rfl⟩, by omega⟩
set_option maxHeartbeats 1000000 in
theorem tc_bookingOf (l : Launch) (EV : gEV) {A : gAd} {U : gV} {x : Int} (hx : inR x) (hI : uI U) : TC l yX1_bookingOf cX1_bookingOf 2 (some (.object "TrunkYards$Booking")) 7 1 6 EV tF [.ref (A 10 0), .int (iI x)] A U [] (fun w A9 U9 L9 => rV (some (.ref (A 12 x.toNat))) A U [] w A9 U9 L9 ∧ 0 ≤ x ∧ x < U 17 0) (fun E => E = cIOB ∧ ¬ (0 ≤ x ∧ x < U 17 0)) := by
  refine t_body tbX1_bookingOf tkX1_bookingOf (by decide) (by intro v hv; simp only [List.mem_cons, List.not_mem_nil, or_false] at hv; rcases hv with rfl | rfl <;> rfl) (Nat.le_of_ble_eq_true rfl) (fun M0 z Q X hl hR hQ hE => ?_)
  subst hl
  have hu := uIs hI
  unfold uS at hu
  refine t_eq (ls' := [some (.ref (A 10 0)), some (.int (iI x))]) (st' := []) rfl rfl ?_
  refine t_run X 2 (pc1 := 2) (ls1 := [_, _]) (st1 := [_, _]) rfl ?_
  refine t_get X (10, 0) (v := .ref (A 30 3)) rfl fX1_38 sC_10 rfl ?_
  refine t_callV X [] [] rfl mX1_146 (tc_alsize z.2.1 EV (i := 3) (by unfold alL; omega) (by show 0 ≤ (U 17 0); omega)) (fun M h _ => gAL_at (h.2.1 3 (by unfold alL; omega))) rfl rfl (fun _ h => h.elim) (fun _ _ h => h) rfl rfl (Nat.le_of_ble_eq_true rfl) (gFit.of hR (by decide) (Nat.le_of_ble_eq_true rfl) (Nat.le_of_ble_eq_true rfl)) (fun _ h => h.elim) (fun v9 A9 U9 L9 h9 => ?_)
  obtain ⟨rfl, h7, h8, rfl⟩ := h9
  obtain rfl := h7.symm
  obtain rfl := h8.symm
  refine t_eq (st' := [.int (iI (U 17 0)), .int (iI x)]) rfl rfl ?_
  refine t_callS X [] [] rfl mX1_147 (tc_there z.2.1 EV (v := x) (m := (U 17 0)) (by omega) (by omega)) rfl rfl (fun _ h => h.elim) (fun _ h => by cases h) rfl rfl (Nat.le_of_ble_eq_true rfl) (gFit.of hR (by decide) (Nat.le_of_ble_eq_true rfl) (Nat.le_of_ble_eq_true rfl)) (fun E h => t_out X hQ hE (by omega) (by omega) ⟨h.1, by have h2 := h.2; omega⟩) (fun v9 A9 U9 L9 h9 => ?_)
  obtain ⟨⟨rfl, h7, h8, rfl⟩, l8⟩ := h9
  obtain rfl := h7.symm
  obtain rfl := h8.symm
  refine t_eq (st' := []) rfl rfl ?_
  refine t_run X 1 (pc1 := 12) (ls1 := [_, _]) (st1 := [_]) rfl ?_
  refine t_get X (10, 0) (v := .ref (A 30 3)) rfl fX1_38 sC_10 rfl ?_
  refine t_run X 1 (pc1 := 16) (ls1 := [_, _]) (st1 := [_, _]) rfl ?_
  refine t_callV X [] [] rfl mX1_74 (tc_alget z.2.1 EV (i := 3) (by unfold alL; omega) (by show (U 17 0) ≤ 100; omega) (x := x) (by show 0 ≤ x ∧ x < (U 17 0); omega)) (fun M h _ => gAL_at (h.2.1 3 (by unfold alL; omega))) rfl rfl (fun _ h => h.elim) (fun _ _ h => h) rfl rfl (Nat.le_of_ble_eq_true rfl) (gFit.of hR (by decide) (Nat.le_of_ble_eq_true rfl) (Nat.le_of_ble_eq_true rfl)) (fun _ h => h.elim) (fun v9 A9 U9 L9 h9 => ?_)
  obtain ⟨rfl, h7, h8, rfl⟩ := h9
  obtain rfl := h7.symm
  obtain rfl := h8.symm
  refine t_eq (st' := [.ref (A 12 (x.toNat))]) rfl rfl ?_
  refine t_cast X rfl kX1_158_16 (fun M h _ => ⟨_, _, h.1 (12, (x.toNat)) _ (sC_12 (by omega))⟩) ?_
  exact t_aret X hQ rfl rfl (Or.inl ⟨_, rfl⟩) (Or.inr ⟨_, rfl⟩) (by omega) (by omega) ⟨⟨rfl, rfl, rfl, rfl⟩, by omega⟩
set_option maxHeartbeats 1000000 in
theorem tc_busy (l : Launch) (EV : gEV) {A : gAd} {U : gV}  (hI : uI U) : TC l yX1_busy cX1_busy 1 (some .int) 2 0 0 EV tF [.ref (A 10 0)] A U [] (rV (some (.int (iI (U 12 0)))) A U []) (rNo) := by
  refine t_body tbX1_busy tkX1_busy (by decide) (by intro v hv; simp only [List.mem_cons, List.not_mem_nil, or_false] at hv; rcases hv with rfl <;> rfl) (Nat.le_of_ble_eq_true rfl) (fun M0 z Q X hl hR hQ hE => ?_)
  subst hl
  have hu := uIs hI
  unfold uS at hu
  refine t_eq (ls' := [some (.ref (A 10 0))]) (st' := []) rfl rfl ?_
  refine t_run X 1 (pc1 := 1) (ls1 := [_]) (st1 := [_]) rfl ?_
  refine t_get X (10, 0) (v := .int (iI (U 12 0))) rfl fX1_230 sC_10 rfl ?_
  exact t_iret X hQ rfl rfl (by omega) (by omega) ⟨rfl, rfl, rfl, rfl⟩
set_option maxHeartbeats 1000000 in
theorem tc_bookings (l : Launch) (EV : gEV) {A : gAd} {U : gV}  (hI : uI U) : TC l yX1_bookings cX1_bookings 1 (some .int) 2 0 0 EV tF [.ref (A 10 0)] A U [] (rV (some (.int (iI (U 17 0)))) A U []) (rNo) := by
  refine t_body tbX1_bookings tkX1_bookings (by decide) (by intro v hv; simp only [List.mem_cons, List.not_mem_nil, or_false] at hv; rcases hv with rfl <;> rfl) (Nat.le_of_ble_eq_true rfl) (fun M0 z Q X hl hR hQ hE => ?_)
  subst hl
  have hu := uIs hI
  unfold uS at hu
  refine t_eq (ls' := [some (.ref (A 10 0))]) (st' := []) rfl rfl ?_
  refine t_run X 1 (pc1 := 1) (ls1 := [_]) (st1 := [_]) rfl ?_
  refine t_get X (10, 0) (v := .ref (A 30 3)) rfl fX1_38 sC_10 rfl ?_
  refine t_callV X [] [] rfl mX1_146 (tc_alsize z.2.1 EV (i := 3) (by unfold alL; omega) (by show 0 ≤ (U 17 0); omega)) (fun M h _ => gAL_at (h.2.1 3 (by unfold alL; omega))) rfl rfl (fun _ h => h.elim) (fun _ _ h => h) rfl rfl (Nat.le_of_ble_eq_true rfl) (gFit.of hR (by decide) (Nat.le_of_ble_eq_true rfl) (Nat.le_of_ble_eq_true rfl)) (fun _ h => h.elim) (fun v9 A9 U9 L9 h9 => ?_)
  obtain ⟨rfl, h7, h8, rfl⟩ := h9
  obtain rfl := h7.symm
  obtain rfl := h8.symm
  refine t_eq (st' := [.int (iI (U 17 0))]) rfl rfl ?_
  exact t_iret X hQ rfl rfl (by omega) (by omega) ⟨rfl, rfl, rfl, rfl⟩
set_option maxHeartbeats 1000000 in
theorem tc_trains (l : Launch) (EV : gEV) {A : gAd} {U : gV}  (hI : uI U) : TC l yX1_trains cX1_trains 1 (some .int) 2 0 0 EV tF [.ref (A 10 0)] A U [] (rV (some (.int (iI (U 25 0)))) A U []) (rNo) := by
  refine t_body tbX1_trains tkX1_trains (by decide) (by intro v hv; simp only [List.mem_cons, List.not_mem_nil, or_false] at hv; rcases hv with rfl <;> rfl) (Nat.le_of_ble_eq_true rfl) (fun M0 z Q X hl hR hQ hE => ?_)
  subst hl
  have hu := uIs hI
  unfold uS at hu
  refine t_eq (ls' := [some (.ref (A 10 0))]) (st' := []) rfl rfl ?_
  refine t_run X 1 (pc1 := 1) (ls1 := [_]) (st1 := [_]) rfl ?_
  refine t_get X (10, 0) (v := .ref (A 30 4)) rfl fX1_41 sC_10 rfl ?_
  refine t_callV X [] [] rfl mX1_146 (tc_alsize z.2.1 EV (i := 4) (by unfold alL; omega) (by show 0 ≤ (U 25 0); omega)) (fun M h _ => gAL_at (h.2.1 4 (by unfold alL; omega))) rfl rfl (fun _ h => h.elim) (fun _ _ h => h) rfl rfl (Nat.le_of_ble_eq_true rfl) (gFit.of hR (by decide) (Nat.le_of_ble_eq_true rfl) (Nat.le_of_ble_eq_true rfl)) (fun _ h => h.elim) (fun v9 A9 U9 L9 h9 => ?_)
  obtain ⟨rfl, h7, h8, rfl⟩ := h9
  obtain rfl := h7.symm
  obtain rfl := h8.symm
  refine t_eq (st' := [.int (iI (U 25 0))]) rfl rfl ?_
  exact t_iret X hQ rfl rfl (by omega) (by omega) ⟨rfl, rfl, rfl, rfl⟩
set_option maxHeartbeats 1000000 in
theorem tc_carried (l : Launch) (EV : gEV) {A : gAd} {U : gV} {x : Int} (hx : inR x) (hI : uI U) : TC l yX1_carried cX1_carried 2 (some .int) 8 1 6 EV tF [.ref (A 10 0), .int (iI x)] A U [] (fun w A9 U9 L9 => rV (some (.int (iI (U 4 x.toNat)))) A U [] w A9 U9 L9 ∧ 0 ≤ x ∧ x < U 2 0) (fun E => E = cIOB ∧ ¬ (0 ≤ x ∧ x < U 2 0)) := by
  refine t_body tbX1_carried tkX1_carried (by decide) (by intro v hv; simp only [List.mem_cons, List.not_mem_nil, or_false] at hv; rcases hv with rfl | rfl <;> rfl) (Nat.le_of_ble_eq_true rfl) (fun M0 z Q X hl hR hQ hE => ?_)
  subst hl
  have hu := uIs hI
  unfold uS at hu
  refine t_eq (ls' := [some (.ref (A 10 0)), some (.int (iI x))]) (st' := []) rfl rfl ?_
  refine t_run X 2 (pc1 := 2) (ls1 := [_, _]) (st1 := [_, _]) rfl ?_
  refine t_callV X [] [] rfl mX1_210 (tc_wagonAt z.2.1 EV (x := x) (by omega) hI) (fun M h _ => ⟨_, _, h.1 (10, 0) _ sC_10⟩) rfl rfl (fun _ h => h.elim) (fun _ h => by cases h) rfl rfl (Nat.le_of_ble_eq_true rfl) (gFit.of hR (by decide) (Nat.le_of_ble_eq_true rfl) (Nat.le_of_ble_eq_true rfl)) (fun E h => t_out X hQ hE (by omega) (by omega) ⟨h.1, by have h2 := h.2; omega⟩) (fun v9 A9 U9 L9 h9 => ?_)
  obtain ⟨⟨rfl, h7, h8, rfl⟩, l2⟩ := h9
  obtain rfl := h7.symm
  obtain rfl := h8.symm
  refine t_eq (st' := [.ref (A 11 (x.toNat))]) rfl rfl ?_
  refine t_get X (11, (x.toNat)) (v := .int (iI (U 4 x.toNat))) rfl fX1_68 (sC_11 (by omega)) rfl ?_
  exact t_iret X hQ rfl rfl (by omega) (by omega) ⟨⟨rfl, rfl, rfl, rfl⟩, by omega⟩
set_option maxHeartbeats 1000000 in
theorem tc_wagonsU (l : Launch) (EV : gEV) {A : gAd} {U : gV} {x : Int} (hx : inR x) (hI : uI U) : TC l yX1_wagons cX1_wagons 2 (some .int) 8 1 6 EV tF [.ref (A 10 0), .int (iI x)] A U [] (fun w A9 U9 L9 => rV (some (.int (iI (U 23 x.toNat)))) A U [] w A9 U9 L9 ∧ 0 ≤ x ∧ x < U 17 0) (fun E => E = cIOB ∧ ¬ (0 ≤ x ∧ x < U 17 0)) := by
  refine t_body tbX1_wagons tkX1_wagons (by decide) (by intro v hv; simp only [List.mem_cons, List.not_mem_nil, or_false] at hv; rcases hv with rfl | rfl <;> rfl) (Nat.le_of_ble_eq_true rfl) (fun M0 z Q X hl hR hQ hE => ?_)
  subst hl
  have hu := uIs hI
  unfold uS at hu
  refine t_eq (ls' := [some (.ref (A 10 0)), some (.int (iI x))]) (st' := []) rfl rfl ?_
  refine t_run X 2 (pc1 := 2) (ls1 := [_, _]) (st1 := [_, _]) rfl ?_
  refine t_callV X [] [] rfl mX1_264 (tc_bookingOf z.2.1 EV (x := x) (by omega) hI) (fun M h _ => ⟨_, _, h.1 (10, 0) _ sC_10⟩) rfl rfl (fun _ h => h.elim) (fun _ h => by cases h) rfl rfl (Nat.le_of_ble_eq_true rfl) (gFit.of hR (by decide) (Nat.le_of_ble_eq_true rfl) (Nat.le_of_ble_eq_true rfl)) (fun E h => t_out X hQ hE (by omega) (by omega) ⟨h.1, by have h2 := h.2; omega⟩) (fun v9 A9 U9 L9 h9 => ?_)
  obtain ⟨⟨rfl, h7, h8, rfl⟩, l2⟩ := h9
  obtain rfl := h7.symm
  obtain rfl := h8.symm
  refine t_eq (st' := [.ref (A 12 (x.toNat))]) rfl rfl ?_
  refine t_get X (12, (x.toNat)) (v := .ref (A 30 (10 + x.toNat))) rfl fX1_246 (sC_12 (by omega)) rfl ?_
  have b := uIb hI (j := x) (by omega) (by omega)
  refine t_callV X [] [] rfl mX1_146 (tc_alsizeN z.2.1 EV (i := (10 + x.toNat)) (by unfold alL; omega) (n := (U 23 (x.toNat))) (alN_b (x.toNat) (by omega)) (by omega)) (fun M h _ => gAL_at (h.2.1 (10 + x.toNat) (by unfold alL; omega))) rfl rfl (fun _ h => h.elim) (fun _ _ h => h) rfl rfl (Nat.le_of_ble_eq_true rfl) (gFit.of hR (by decide) (Nat.le_of_ble_eq_true rfl) (Nat.le_of_ble_eq_true rfl)) (fun _ h => h.elim) (fun v9 A9 U9 L9 h9 => ?_)
  obtain ⟨rfl, h7, h8, rfl⟩ := h9
  obtain rfl := h7.symm
  obtain rfl := h8.symm
  refine t_eq (st' := [.int (iI (U 23 (x.toNat)))]) rfl rfl ?_
  exact t_iret X hQ rfl rfl (by omega) (by omega) ⟨⟨rfl, rfl, rfl, rfl⟩, by omega⟩
set_option maxHeartbeats 1000000 in
theorem tc_goingOn (l : Launch) (EV : gEV) {A : gAd} {U : gV} {x : Int} (hx : inR x) (hI : uI U) : TC l yX1_goingOn cX1_goingOn 3 (some (.object "TrunkYards$Call")) 8 2 12 EV tF [.ref (A 10 0), .int (iI x)] A U [] (fun w A9 U9 L9 => rV (some (.ref (A 13 x.toNat))) A U [] w A9 U9 L9 ∧ (0 ≤ x ∧ x < U 11 0) ∧ ¬ U 15 x.toNat = 0) (fun E => E = cIOB ∧ ¬ (0 ≤ x ∧ x < U 11 0) ∨ E = cISE ∧ (0 ≤ x ∧ x < U 11 0) ∧ U 15 x.toNat = 0) := by
  refine t_body tbX1_goingOn tkX1_goingOn (by decide) (by intro v hv; simp only [List.mem_cons, List.not_mem_nil, or_false] at hv; rcases hv with rfl | rfl <;> rfl) (Nat.le_of_ble_eq_true rfl) (fun M0 z Q X hl hR hQ hE => ?_)
  subst hl
  have hu := uIs hI
  unfold uS at hu
  refine t_eq (ls' := [some (.ref (A 10 0)), some (.int (iI x)), none]) (st' := []) rfl rfl ?_
  refine t_run X 2 (pc1 := 2) (ls1 := [_, _, _]) (st1 := [_, _]) rfl ?_
  refine t_callV X [] [] rfl mX1_150 (tc_named z.2.1 EV (x := x) (by omega) hI) (fun M h _ => ⟨_, _, h.1 (10, 0) _ sC_10⟩) rfl rfl (fun _ h => h.elim) (fun _ h => by cases h) rfl rfl (Nat.le_of_ble_eq_true rfl) (gFit.of hR (by decide) (Nat.le_of_ble_eq_true rfl) (Nat.le_of_ble_eq_true rfl)) (fun E h => t_out X hQ hE (by omega) (by omega) (Or.inl h)) (fun v9 A9 U9 L9 h9 => ?_)
  obtain ⟨⟨rfl, h7, h8, rfl⟩, l2⟩ := h9
  obtain rfl := h7.symm
  obtain rfl := h8.symm
  refine t_eq (st' := [.ref (A 13 (x.toNat))]) rfl rfl ?_
  refine t_run X 2 (pc1 := 7) (ls1 := [_, _, _]) (st1 := [_]) rfl ?_
  refine t_get X (13, (x.toNat)) (v := .int (iI (U 15 x.toNat))) rfl fX1_123 (sC_13 (by omega)) rfl ?_
  have b := uI15 hI (j := x) (by omega) (by omega)
  refine t_eq (ls' := [some (.ref (A 10 0)), some (.int (iI x)), some (.ref (A 13 (x.toNat)))]) (st' := [.int (iI (bI (¬ (U 15 x.toNat) = 0)))]) rfl (by rw [bI_of (x := (U 15 x.toNat)) (by omega)]) ?_
  refine t_callS X [] [] rfl mX1_154 (tc_allowed z.2.1 EV (¬ (U 15 x.toNat) = 0)) rfl rfl (fun _ h => h.elim) (fun _ h => by cases h) rfl rfl (Nat.le_of_ble_eq_true rfl) (gFit.of hR (by decide) (Nat.le_of_ble_eq_true rfl) (Nat.le_of_ble_eq_true rfl)) (fun E h => t_out X hQ hE (by omega) (by omega) (Or.inr ⟨h.1, by omega, by have h2 := h.2; omega⟩)) (fun v9 A9 U9 L9 h9 => ?_)
  obtain ⟨⟨rfl, h7, h8, rfl⟩, l10⟩ := h9
  obtain rfl := h7.symm
  obtain rfl := h8.symm
  refine t_eq (st' := []) rfl rfl ?_
  refine t_run X 1 (pc1 := 14) (ls1 := [_, _, _]) (st1 := [_]) rfl ?_
  exact t_aret X hQ rfl rfl (Or.inl ⟨_, rfl⟩) (Or.inr ⟨_, rfl⟩) (by omega) (by omega) ⟨⟨rfl, rfl, rfl, rfl⟩, by omega⟩
set_option maxHeartbeats 1000000 in
theorem tc_way (l : Launch) (EV : gEV) {A : gAd} {U : gV} {x : Int} (hx : inR x) (hI : uI U) : TC l yX1_way cX1_way 2 (some .int) 9 2 12 EV tF [.ref (A 10 0), .int (iI x)] A U [] (fun w A9 U9 L9 => rV (some (.int (iI (U 31 x.toNat)))) A U [] w A9 U9 L9 ∧ (0 ≤ x ∧ x < U 11 0) ∧ ¬ U 15 x.toNat = 0) (fun E => E = cIOB ∧ ¬ (0 ≤ x ∧ x < U 11 0) ∨ E = cISE ∧ (0 ≤ x ∧ x < U 11 0) ∧ U 15 x.toNat = 0) := by
  refine t_body tbX1_way tkX1_way (by decide) (by intro v hv; simp only [List.mem_cons, List.not_mem_nil, or_false] at hv; rcases hv with rfl | rfl <;> rfl) (Nat.le_of_ble_eq_true rfl) (fun M0 z Q X hl hR hQ hE => ?_)
  subst hl
  have hu := uIs hI
  unfold uS at hu
  refine t_eq (ls' := [some (.ref (A 10 0)), some (.int (iI x))]) (st' := []) rfl rfl ?_
  refine t_run X 2 (pc1 := 2) (ls1 := [_, _]) (st1 := [_, _]) rfl ?_
  refine t_callV X [] [] rfl mX1_249 (tc_goingOn z.2.1 EV (x := x) (by omega) hI) (fun M h _ => ⟨_, _, h.1 (10, 0) _ sC_10⟩) rfl rfl (fun _ h => h.elim) (fun _ h => by cases h) rfl rfl (Nat.le_of_ble_eq_true rfl) (gFit.of hR (by decide) (Nat.le_of_ble_eq_true rfl) (Nat.le_of_ble_eq_true rfl)) (fun E h => t_out X hQ hE (by omega) (by omega) (h)) (fun v9 A9 U9 L9 h9 => ?_)
  obtain ⟨⟨rfl, h7, h8, rfl⟩, l2⟩ := h9
  obtain rfl := h7.symm
  obtain rfl := h8.symm
  refine t_eq (st' := [.ref (A 13 (x.toNat))]) rfl rfl ?_
  refine t_get X (13, (x.toNat)) (v := .ref (A 30 (100 + x.toNat))) rfl fX1_287 (sC_13 (by omega)) rfl ?_
  have b := uI31 hI (j := x) (by omega) (by omega)
  refine t_callV X [] [] rfl mX1_146 (tc_alsizeN z.2.1 EV (i := (100 + x.toNat)) (by unfold alL; omega) (n := (U 31 (x.toNat))) (alN_o (x.toNat)) (by omega)) (fun M h _ => gAL_at (h.2.1 (100 + x.toNat) (by unfold alL; omega))) rfl rfl (fun _ h => h.elim) (fun _ _ h => h) rfl rfl (Nat.le_of_ble_eq_true rfl) (gFit.of hR (by decide) (Nat.le_of_ble_eq_true rfl) (Nat.le_of_ble_eq_true rfl)) (fun _ h => h.elim) (fun v9 A9 U9 L9 h9 => ?_)
  obtain ⟨rfl, h7, h8, rfl⟩ := h9
  obtain rfl := h7.symm
  obtain rfl := h8.symm
  refine t_eq (st' := [.int (iI (U 31 (x.toNat)))]) rfl rfl ?_
  exact t_iret X hQ rfl rfl (by omega) (by omega) ⟨⟨rfl, rfl, rfl, rfl⟩, by omega⟩
set_option maxHeartbeats 1000000 in
theorem tc_onU (l : Launch) (EV : gEV) {A : gAd} {U : gV} {y t : Int} (hy : inR y) (ht : inR t) (hI : uI U) : TC l yX1_on cX1_on 3 (some .int) 8 2 12 EV tF [.ref (A 10 0), .int (iI y), .int (iI t)] A U [] (fun w A9 U9 L9 => rV (some (.int (iI (U 6 (5 * y + t).toNat)))) A U [] w A9 U9 L9 ∧ isTrk y t) (fun E => E = cIAE ∧ ¬ isTrk y t) := by
  refine t_body tbX1_on tkX1_on (by decide) (by intro v hv; simp only [List.mem_cons, List.not_mem_nil, or_false] at hv; rcases hv with rfl | rfl | rfl <;> rfl) (Nat.le_of_ble_eq_true rfl) (fun M0 z Q X hl hR hQ hE => ?_)
  subst hl
  have hu := uIs hI
  unfold uS at hu
  refine t_eq (ls' := [some (.ref (A 10 0)), some (.int (iI y)), some (.int (iI t))]) (st' := []) rfl rfl ?_
  refine t_run X 1 (pc1 := 1) (ls1 := [_, _, _]) (st1 := [_]) rfl ?_
  refine t_get X (10, 0) (v := .ref (A 30 0)) rfl fX1_10 sC_10 rfl ?_
  refine t_run X 2 (pc1 := 6) (ls1 := [_, _, _]) (st1 := [_, _, _]) rfl ?_
  refine t_callS X [] [] rfl mX1_160 (tc_trackOf z.2.1 EV (y := y) (t := t) (by omega) (by omega)) rfl rfl (fun _ h => h.elim) (fun _ h => by cases h) rfl rfl (Nat.le_of_ble_eq_true rfl) (gFit.of hR (by decide) (Nat.le_of_ble_eq_true rfl) (Nat.le_of_ble_eq_true rfl)) (fun E h => t_out X hQ hE (by omega) (by omega) ⟨h.1, by have h2 := h.2; omega⟩) (fun v9 A9 U9 L9 h9 => ?_)
  obtain ⟨⟨rfl, h7, h8, rfl⟩, l6⟩ := h9
  obtain rfl := h7.symm
  obtain rfl := h8.symm
  refine t_eq (st' := [.int (iI (5 * y + t)), .ref (A 30 0)]) rfl rfl ?_
  refine t_callV X [] [] rfl mX1_74 (tc_alget z.2.1 EV (i := 0) (by unfold alL; omega) (by show (15 : Int) ≤ 100; omega) (x := (5 * y + t)) (by show 0 ≤ (5 * y + t) ∧ (5 * y + t) < (15 : Int); omega)) (fun M h _ => gAL_at (h.2.1 0 (by unfold alL; omega))) rfl rfl (fun _ h => h.elim) (fun _ _ h => h) rfl rfl (Nat.le_of_ble_eq_true rfl) (gFit.of hR (by decide) (Nat.le_of_ble_eq_true rfl) (Nat.le_of_ble_eq_true rfl)) (fun _ h => h.elim) (fun v9 A9 U9 L9 h9 => ?_)
  obtain ⟨rfl, h7, h8, rfl⟩ := h9
  obtain rfl := h7.symm
  obtain rfl := h8.symm
  refine t_eq (st' := [.ref (A 24 ((5 * y + t).toNat))]) rfl rfl ?_
  refine t_cast X rfl kX1_47_2 (fun M h _ => gLk_at (h.2.2 ((5 * y + t).toNat) (by unfold llL; omega))) ?_
  have b := uI6 hI (j := 5 * y + t) (by omega) (by omega)
  refine t_callV X [] [] rfl mX1_78 (tc_llsizeN z.2.1 EV (i := (5 * y + t).toNat) (by unfold llL; omega) (n := (U 6 (5 * y + t).toNat)) (llN_t (by omega)) (by omega)) (fun M h _ => gLk_at (h.2.2 ((5 * y + t).toNat) (by unfold llL; omega))) rfl rfl (fun _ h => h.elim) (fun _ _ h => h) rfl rfl (Nat.le_of_ble_eq_true rfl) (gFit.of hR (by decide) (Nat.le_of_ble_eq_true rfl) (Nat.le_of_ble_eq_true rfl)) (fun _ h => h.elim) (fun v9 A9 U9 L9 h9 => ?_)
  obtain ⟨rfl, h7, h8, rfl⟩ := h9
  obtain rfl := h7.symm
  obtain rfl := h8.symm
  refine t_eq (st' := [.int (iI (U 6 (5 * y + t).toNat))]) rfl rfl ?_
  exact t_iret X hQ rfl rfl (by omega) (by omega) ⟨⟨rfl, rfl, rfl, rfl⟩, by omega⟩
set_option maxHeartbeats 1000000 in
theorem tc_atU (l : Launch) (EV : gEV) {A : gAd} {U : gV} {y t p : Int} (hy : inR y) (ht : inR t) (hp : inR p) (hI : uI U) : TC l yX1_at cX1_at 5 (some .int) 8 3 18 EV tF [.ref (A 10 0), .int (iI y), .int (iI t), .int (iI p)] A U [] (fun w A9 U9 L9 => rV (some (.int (iI (U 7 (6 * (5 * y + t) + p).toNat)))) A U [] w A9 U9 L9 ∧ isTrk y t ∧ 0 ≤ p ∧ p < U 6 (5 * y + t).toNat) (fun E => E = cIAE ∧ ¬ isTrk y t ∨ E = cIOB ∧ isTrk y t ∧ ¬ (0 ≤ p ∧ p < U 6 (5 * y + t).toNat)) := by
  refine t_body tbX1_at tkX1_at (by decide) (by intro v hv; simp only [List.mem_cons, List.not_mem_nil, or_false] at hv; rcases hv with rfl | rfl | rfl | rfl <;> rfl) (Nat.le_of_ble_eq_true rfl) (fun M0 z Q X hl hR hQ hE => ?_)
  subst hl
  have hu := uIs hI
  unfold uS at hu
  refine t_eq (ls' := [some (.ref (A 10 0)), some (.int (iI y)), some (.int (iI t)), some (.int (iI p)), none]) (st' := []) rfl rfl ?_
  refine t_run X 1 (pc1 := 1) (ls1 := [_, _, _, _, _]) (st1 := [_]) rfl ?_
  refine t_get X (10, 0) (v := .ref (A 30 0)) rfl fX1_10 sC_10 rfl ?_
  refine t_run X 2 (pc1 := 6) (ls1 := [_, _, _, _, _]) (st1 := [_, _, _]) rfl ?_
  refine t_callS X [] [] rfl mX1_160 (tc_trackOf z.2.1 EV (y := y) (t := t) (by omega) (by omega)) rfl rfl (fun _ h => h.elim) (fun _ h => by cases h) rfl rfl (Nat.le_of_ble_eq_true rfl) (gFit.of hR (by decide) (Nat.le_of_ble_eq_true rfl) (Nat.le_of_ble_eq_true rfl)) (fun E h => t_out X hQ hE (by omega) (by omega) (Or.inl h)) (fun v9 A9 U9 L9 h9 => ?_)
  obtain ⟨⟨rfl, h7, h8, rfl⟩, l6⟩ := h9
  obtain rfl := h7.symm
  obtain rfl := h8.symm
  refine t_eq (st' := [.int (iI (5 * y + t)), .ref (A 30 0)]) rfl rfl ?_
  refine t_callV X [] [] rfl mX1_74 (tc_alget z.2.1 EV (i := 0) (by unfold alL; omega) (by show (15 : Int) ≤ 100; omega) (x := (5 * y + t)) (by show 0 ≤ (5 * y + t) ∧ (5 * y + t) < (15 : Int); omega)) (fun M h _ => gAL_at (h.2.1 0 (by unfold alL; omega))) rfl rfl (fun _ h => h.elim) (fun _ _ h => h) rfl rfl (Nat.le_of_ble_eq_true rfl) (gFit.of hR (by decide) (Nat.le_of_ble_eq_true rfl) (Nat.le_of_ble_eq_true rfl)) (fun _ h => h.elim) (fun v9 A9 U9 L9 h9 => ?_)
  obtain ⟨rfl, h7, h8, rfl⟩ := h9
  obtain rfl := h7.symm
  obtain rfl := h8.symm
  refine t_eq (st' := [.ref (A 24 ((5 * y + t).toNat))]) rfl rfl ?_
  refine t_cast X rfl kX1_47_2 (fun M h _ => gLk_at (h.2.2 ((5 * y + t).toNat) (by unfold llL; omega))) ?_
  refine t_run X 3 (pc1 := 20) (ls1 := [_, _, _, _, _]) (st1 := [_, _]) rfl ?_
  have b := uI6 hI (j := 5 * y + t) (by omega) (by omega)
  refine t_callV X [] [] rfl mX1_78 (tc_llsizeN z.2.1 EV (i := (5 * y + t).toNat) (by unfold llL; omega) (n := (U 6 (5 * y + t).toNat)) (llN_t (by omega)) (by omega)) (fun M h _ => gLk_at (h.2.2 ((5 * y + t).toNat) (by unfold llL; omega))) rfl rfl (fun _ h => h.elim) (fun _ _ h => h) rfl rfl (Nat.le_of_ble_eq_true rfl) (gFit.of hR (by decide) (Nat.le_of_ble_eq_true rfl) (Nat.le_of_ble_eq_true rfl)) (fun _ h => h.elim) (fun v9 A9 U9 L9 h9 => ?_)
  obtain ⟨rfl, h7, h8, rfl⟩ := h9
  obtain rfl := h7.symm
  obtain rfl := h8.symm
  refine t_eq (st' := [.int (iI (U 6 (5 * y + t).toNat)), .int (iI p)]) rfl rfl ?_
  refine t_callS X [] [] rfl mX1_147 (tc_there z.2.1 EV (v := p) (m := (U 6 (5 * y + t).toNat)) (by omega) (by omega)) rfl rfl (fun _ h => h.elim) (fun _ h => by cases h) rfl rfl (Nat.le_of_ble_eq_true rfl) (gFit.of hR (by decide) (Nat.le_of_ble_eq_true rfl) (Nat.le_of_ble_eq_true rfl)) (fun E h => t_out X hQ hE (by omega) (by omega) (Or.inr ⟨h.1, by omega, h.2⟩)) (fun v9 A9 U9 L9 h9 => ?_)
  obtain ⟨⟨rfl, h7, h8, rfl⟩, l23⟩ := h9
  obtain rfl := h7.symm
  obtain rfl := h8.symm
  refine t_eq (st' := []) rfl rfl ?_
  refine t_run X 2 (pc1 := 29) (ls1 := [_, _, _, _, _]) (st1 := [_, _]) rfl ?_
  have b7 := uI7 hI (a := 5 * y + t) (k := p) (by omega) (by omega) (by omega) (by omega)
  have e7 : 6 * (5 * y + t).toNat + p.toNat = (6 * (5 * y + t) + p).toNat := by omega
  rw [← e7] at b7
  refine t_callV X [] [] rfl mX1_88 (tc_llgetT z.2.1 EV (i := (5 * y + t).toNat) (by omega) (x := p) (by omega)) (fun M h _ => gLk_at (h.2.2 ((5 * y + t).toNat) (by unfold llL; omega))) rfl rfl (fun _ h => h.elim) (fun _ _ h => h) rfl rfl (Nat.le_of_ble_eq_true rfl) (gFit.of hR (by decide) (Nat.le_of_ble_eq_true rfl) (Nat.le_of_ble_eq_true rfl)) (fun _ h => h.elim) (fun v9 A9 U9 L9 h9 => ?_)
  obtain ⟨rfl, h7, h8, rfl⟩ := h9
  obtain rfl := h7.symm
  obtain rfl := h8.symm
  refine t_eq (st' := [.ref (A 11 ((U 7 (6 * (5 * y + t).toNat + p.toNat)).toNat))]) rfl rfl ?_
  refine t_cast X rfl kX1_69_7 (fun M h _ => ⟨_, _, h.1 (11, ((U 7 (6 * (5 * y + t).toNat + p.toNat)).toNat)) _ (sC_11 (by omega))⟩) ?_
  refine t_get X (11, ((U 7 (6 * (5 * y + t).toNat + p.toNat)).toNat)) (v := .int (iI (((U 7 (6 * (5 * y + t).toNat + p.toNat)).toNat : Nat) : Int))) rfl fX1_170 (sC_11 (by omega)) rfl ?_
  exact t_iret X hQ rfl rfl (by omega) (by omega) ⟨⟨by rw [← e7]; congr 3; omega, rfl, rfl, rfl⟩, by omega⟩
set_option maxHeartbeats 1000000 in
theorem tc_whereU (l : Launch) (EV : gEV) {A : gAd} {U : gV} {x : Int} (hx : inR x) (hI : uI U) : TC l yX1_where cX1_where 3 (some .int) 8 1 6 EV tF [.ref (A 10 0), .int (iI x)] A U [] (fun w A9 U9 L9 => rV (some (.int (iI (if U 3 x.toNat = -1 then -1 else 10 * (U 3 x.toNat / 5) + U 3 x.toNat % 5)))) A U [] w A9 U9 L9 ∧ 0 ≤ x ∧ x < U 2 0) (fun E => E = cIOB ∧ ¬ (0 ≤ x ∧ x < U 2 0)) := by
  refine t_body tbX1_where tkX1_where (by decide) (by intro v hv; simp only [List.mem_cons, List.not_mem_nil, or_false] at hv; rcases hv with rfl | rfl <;> rfl) (Nat.le_of_ble_eq_true rfl) (fun M0 z Q X hl hR hQ hE => ?_)
  subst hl
  have hu := uIs hI
  unfold uS at hu
  refine t_eq (ls' := [some (.ref (A 10 0)), some (.int (iI x)), none]) (st' := []) rfl rfl ?_
  refine t_run X 2 (pc1 := 2) (ls1 := [_, _, _]) (st1 := [_, _]) rfl ?_
  refine t_callV X [] [] rfl mX1_210 (tc_wagonAt z.2.1 EV (x := x) (by omega) hI) (fun M h _ => ⟨_, _, h.1 (10, 0) _ sC_10⟩) rfl rfl (fun _ h => h.elim) (fun _ h => by cases h) rfl rfl (Nat.le_of_ble_eq_true rfl) (gFit.of hR (by decide) (Nat.le_of_ble_eq_true rfl) (Nat.le_of_ble_eq_true rfl)) (fun E h => t_out X hQ hE (by omega) (by omega) ⟨h.1, by have h2 := h.2; omega⟩) (fun v9 A9 U9 L9 h9 => ?_)
  obtain ⟨⟨rfl, h7, h8, rfl⟩, l2⟩ := h9
  obtain rfl := h7.symm
  obtain rfl := h8.symm
  refine t_eq (st' := [.ref (A 11 (x.toNat))]) rfl rfl ?_
  refine t_run X 2 (pc1 := 7) (ls1 := [_, _, _]) (st1 := [_]) rfl ?_
  refine t_get X (11, (x.toNat)) (v := .int (iI (U 3 x.toNat))) rfl fX1_185 (sC_11 (by omega)) rfl ?_
  have b := uI3 hI (j := x) (by omega) (by omega)
  refine t_run X 1 (pc1 := 11) (ls1 := [_, _, _]) (st1 := [_, _]) rfl ?_
  refine t_br X (pc1 := 18) (st1 := []) rfl (fun b9 => ?_) (fun b9 => ?_)
  · have c11 : ¬ (U 3 x.toNat) = (-1) := cNq b9 (by omega) (by omega)
    refine t_run X 2 (pc1 := 21) (ls1 := [_, _, _]) (st1 := [_, _]) rfl ?_
    refine t_get X (11, (x.toNat)) (v := .int (iI (U 3 x.toNat))) rfl fX1_185 (sC_11 (by omega)) rfl ?_
    refine t_run X 1 (pc1 := 25) (ls1 := [_, _, _]) (st1 := [_, _, _]) rfl ?_
    refine t_idivU X (x := (U 3 x.toNat)) (y := 5) rfl (by omega) (by omega) ?_
    refine t_run X 2 (pc1 := 28) (ls1 := [_, _, _]) (st1 := [_, _]) rfl ?_
    refine t_eq (ls' := [some (.ref (A 10 0)), some (.int (iI x)), some (.ref (A 11 (x.toNat)))]) (st' := [.ref (A 11 (x.toNat)), .int (iI (10 * ((U 3 x.toNat) / 5)))]) (by simp only [iI_add, iI_sub, iI_mul, iI_neg]) (by simp only [iI_add, iI_sub, iI_mul, iI_neg]) ?_
    refine t_get X (11, (x.toNat)) (v := .int (iI (U 3 x.toNat))) rfl fX1_185 (sC_11 (by omega)) rfl ?_
    refine t_run X 1 (pc1 := 32) (ls1 := [_, _, _]) (st1 := [_, _, _]) rfl ?_
    refine t_iremU X (x := (U 3 x.toNat)) (y := 5) rfl (by omega) (by omega) ?_
    refine t_run X 1 (pc1 := 34) (ls1 := [_, _, _]) (st1 := [_]) rfl ?_
    refine t_eq (ls' := [some (.ref (A 10 0)), some (.int (iI x)), some (.ref (A 11 (x.toNat)))]) (st' := [.int (iI ((10 * ((U 3 x.toNat) / 5)) + ((U 3 x.toNat) % 5)))]) (by simp only [iI_add, iI_sub, iI_mul, iI_neg]) (by simp only [iI_add, iI_sub, iI_mul, iI_neg]) ?_
    exact t_iret X hQ rfl rfl (by omega) (by omega) ⟨⟨by first | rw [if_pos (by omega)] | rw [if_neg (by omega)], rfl, rfl, rfl⟩, by omega⟩
  · have c11 : (U 3 x.toNat) = (-1) := cEq b9 (by omega) (by omega)
    refine t_run X 2 (pc1 := 34) (ls1 := [_, _, _]) (st1 := [_]) rfl ?_
    exact t_iret X hQ rfl rfl (by omega) (by omega) ⟨⟨by first | rw [if_pos (by omega)] | rw [if_neg (by omega)], rfl, rfl, rfl⟩, by omega⟩
set_option maxHeartbeats 1000000 in
theorem tc_promisedU (l : Launch) (EV : gEV) {A : gAd} {U : gV} {x : Int} (hx : inR x) (hI : uI U) : TC l yX1_promised cX1_promised 3 (some .int) 8 1 6 EV tF [.ref (A 10 0), .int (iI x)] A U [] (fun w A9 U9 L9 => rV (some (.int (iI (if U 5 x.toNat < 0 then -1 else U 5 x.toNat)))) A U [] w A9 U9 L9 ∧ 0 ≤ x ∧ x < U 2 0) (fun E => E = cIOB ∧ ¬ (0 ≤ x ∧ x < U 2 0)) := by
  refine t_body tbX1_promised tkX1_promised (by decide) (by intro v hv; simp only [List.mem_cons, List.not_mem_nil, or_false] at hv; rcases hv with rfl | rfl <;> rfl) (Nat.le_of_ble_eq_true rfl) (fun M0 z Q X hl hR hQ hE => ?_)
  subst hl
  have hu := uIs hI
  unfold uS at hu
  refine t_eq (ls' := [some (.ref (A 10 0)), some (.int (iI x)), none]) (st' := []) rfl rfl ?_
  refine t_run X 2 (pc1 := 2) (ls1 := [_, _, _]) (st1 := [_, _]) rfl ?_
  refine t_callV X [] [] rfl mX1_210 (tc_wagonAt z.2.1 EV (x := x) (by omega) hI) (fun M h _ => ⟨_, _, h.1 (10, 0) _ sC_10⟩) rfl rfl (fun _ h => h.elim) (fun _ h => by cases h) rfl rfl (Nat.le_of_ble_eq_true rfl) (gFit.of hR (by decide) (Nat.le_of_ble_eq_true rfl) (Nat.le_of_ble_eq_true rfl)) (fun E h => t_out X hQ hE (by omega) (by omega) ⟨h.1, by have h2 := h.2; omega⟩) (fun v9 A9 U9 L9 h9 => ?_)
  obtain ⟨⟨rfl, h7, h8, rfl⟩, l2⟩ := h9
  obtain rfl := h7.symm
  obtain rfl := h8.symm
  refine t_eq (st' := [.ref (A 11 (x.toNat))]) rfl rfl ?_
  refine t_run X 2 (pc1 := 7) (ls1 := [_, _, _]) (st1 := [_]) rfl ?_
  have b := uI5 hI (j := x) (by omega) (by omega)
  by_cases n1 : (U 5 x.toNat) < 0
  · refine t_get X (11, (x.toNat)) (v := .null) rfl fX1_89 (sC_11 (by omega)) (by show some (rfA A 12 (U 5 x.toNat)) = _; rw [rfA_0 n1]) ?_
    refine t_run X 3 (pc1 := 24) (ls1 := [_, _, _]) (st1 := [_]) rfl ?_
    exact t_iret X hQ rfl rfl (by omega) (by omega) ⟨⟨by first | rw [if_pos (by omega)] | (rw [if_neg (by omega)]; congr 3; omega), rfl, rfl, rfl⟩, by omega⟩
  · refine t_get X (11, (x.toNat)) (v := .ref (A 12 ((U 5 x.toNat).toNat))) rfl fX1_89 (sC_11 (by omega)) (by show some (rfA A 12 (U 5 x.toNat)) = _; rw [rfA_1 n1]) ?_
    refine t_run X 2 (pc1 := 18) (ls1 := [_, _, _]) (st1 := [_]) rfl ?_
    refine t_get X (11, (x.toNat)) (v := .ref (A 12 ((U 5 x.toNat).toNat))) rfl fX1_89 (sC_11 (by omega)) (by show some (rfA A 12 (U 5 x.toNat)) = _; rw [rfA_1 n1]) ?_
    refine t_get X (12, ((U 5 x.toNat).toNat)) (v := .int (iI (((U 5 x.toNat).toNat : Nat) : Int))) rfl fX1_214 (sC_12 (by omega)) rfl ?_
    exact t_iret X hQ rfl rfl (by omega) (by omega) ⟨⟨by first | rw [if_pos (by omega)] | (rw [if_neg (by omega)]; congr 3; omega), rfl, rfl, rfl⟩, by omega⟩
set_option maxHeartbeats 1000000 in
theorem tc_wagonOfU (l : Launch) (EV : gEV) {A : gAd} {U : gV} {x p : Int} (hx : inR x) (hp : inR p) (hI : uI U) : TC l yX1_wagonOf cX1_wagonOf 4 (some .int) 8 2 12 EV tF [.ref (A 10 0), .int (iI x), .int (iI p)] A U [] (fun w A9 U9 L9 => rV (some (.int (iI (U 24 (30 * x + p).toNat)))) A U [] w A9 U9 L9 ∧ (0 ≤ x ∧ x < U 17 0) ∧ 0 ≤ p ∧ p < U 23 x.toNat) (fun E => E = cIOB ∧ ¬ (0 ≤ x ∧ x < U 17 0) ∨ E = cIOB ∧ (0 ≤ x ∧ x < U 17 0) ∧ ¬ (0 ≤ p ∧ p < U 23 x.toNat)) := by
  refine t_body tbX1_wagonOf tkX1_wagonOf (by decide) (by intro v hv; simp only [List.mem_cons, List.not_mem_nil, or_false] at hv; rcases hv with rfl | rfl | rfl <;> rfl) (Nat.le_of_ble_eq_true rfl) (fun M0 z Q X hl hR hQ hE => ?_)
  subst hl
  have hu := uIs hI
  unfold uS at hu
  refine t_eq (ls' := [some (.ref (A 10 0)), some (.int (iI x)), some (.int (iI p)), none]) (st' := []) rfl rfl ?_
  refine t_run X 2 (pc1 := 2) (ls1 := [_, _, _, _]) (st1 := [_, _]) rfl ?_
  refine t_callV X [] [] rfl mX1_264 (tc_bookingOf z.2.1 EV (x := x) (by omega) hI) (fun M h _ => ⟨_, _, h.1 (10, 0) _ sC_10⟩) rfl rfl (fun _ h => h.elim) (fun _ h => by cases h) rfl rfl (Nat.le_of_ble_eq_true rfl) (gFit.of hR (by decide) (Nat.le_of_ble_eq_true rfl) (Nat.le_of_ble_eq_true rfl)) (fun E h => t_out X hQ hE (by omega) (by omega) (Or.inl h)) (fun v9 A9 U9 L9 h9 => ?_)
  obtain ⟨⟨rfl, h7, h8, rfl⟩, l2⟩ := h9
  obtain rfl := h7.symm
  obtain rfl := h8.symm
  refine t_eq (st' := [.ref (A 12 (x.toNat))]) rfl rfl ?_
  refine t_run X 1 (pc1 := 6) (ls1 := [_, _, _, _]) (st1 := []) rfl ?_
  have b := uIb hI (j := x) (by omega) (by omega)
  refine t_run X 2 (pc1 := 8) (ls1 := [_, _, _, _]) (st1 := [_, _]) rfl ?_
  refine t_get X (12, (x.toNat)) (v := .ref (A 30 (10 + x.toNat))) rfl fX1_246 (sC_12 (by omega)) rfl ?_
  refine t_callV X [] [] rfl mX1_146 (tc_alsizeN z.2.1 EV (i := (10 + x.toNat)) (by unfold alL; omega) (n := (U 23 (x.toNat))) (alN_b (x.toNat) (by omega)) (by omega)) (fun M h _ => gAL_at (h.2.1 (10 + x.toNat) (by unfold alL; omega))) rfl rfl (fun _ h => h.elim) (fun _ _ h => h) rfl rfl (Nat.le_of_ble_eq_true rfl) (gFit.of hR (by decide) (Nat.le_of_ble_eq_true rfl) (Nat.le_of_ble_eq_true rfl)) (fun _ h => h.elim) (fun v9 A9 U9 L9 h9 => ?_)
  obtain ⟨rfl, h7, h8, rfl⟩ := h9
  obtain rfl := h7.symm
  obtain rfl := h8.symm
  refine t_eq (st' := [.int (iI (U 23 (x.toNat))), .int (iI p)]) rfl rfl ?_
  refine t_callS X [] [] rfl mX1_147 (tc_there z.2.1 EV (v := p) (m := (U 23 (x.toNat))) (by omega) (by omega)) rfl rfl (fun _ h => h.elim) (fun _ h => by cases h) rfl rfl (Nat.le_of_ble_eq_true rfl) (gFit.of hR (by decide) (Nat.le_of_ble_eq_true rfl) (Nat.le_of_ble_eq_true rfl)) (fun E h => t_out X hQ hE (by omega) (by omega) (Or.inr ⟨h.1, by omega, h.2⟩)) (fun v9 A9 U9 L9 h9 => ?_)
  obtain ⟨⟨rfl, h7, h8, rfl⟩, l14⟩ := h9
  obtain rfl := h7.symm
  obtain rfl := h8.symm
  refine t_eq (st' := []) rfl rfl ?_
  refine t_run X 1 (pc1 := 18) (ls1 := [_, _, _, _]) (st1 := [_]) rfl ?_
  refine t_get X (12, (x.toNat)) (v := .ref (A 30 (10 + x.toNat))) rfl fX1_246 (sC_12 (by omega)) rfl ?_
  refine t_run X 1 (pc1 := 22) (ls1 := [_, _, _, _]) (st1 := [_, _]) rfl ?_
  have b7 := uI24 hI (a := x) (k := p) (by omega) (by omega) (by omega) (by omega)
  have e7 : 30 * x.toNat + p.toNat = (30 * x + p).toNat := by omega
  rw [← e7] at b7
  refine t_callV X [] [] rfl mX1_74 (tc_algetB z.2.1 EV (b := (x.toNat)) (by omega) (by omega) (by omega) (x := p) (by omega)) (fun M h _ => gAL_at (h.2.1 (10 + x.toNat) (by unfold alL; omega))) rfl rfl (fun _ h => h.elim) (fun _ _ h => h) rfl rfl (Nat.le_of_ble_eq_true rfl) (gFit.of hR (by decide) (Nat.le_of_ble_eq_true rfl) (Nat.le_of_ble_eq_true rfl)) (fun _ h => h.elim) (fun v9 A9 U9 L9 h9 => ?_)
  obtain ⟨rfl, h7, h8, rfl⟩ := h9
  obtain rfl := h7.symm
  obtain rfl := h8.symm
  refine t_eq (st' := [.ref (A 11 ((U 24 (30 * (x.toNat) + p.toNat)).toNat))]) rfl rfl ?_
  refine t_cast X rfl kX1_69_7 (fun M h _ => ⟨_, _, h.1 (11, ((U 24 (30 * (x.toNat) + p.toNat)).toNat)) _ (sC_11 (by omega))⟩) ?_
  refine t_get X (11, ((U 24 (30 * (x.toNat) + p.toNat)).toNat)) (v := .int (iI (((U 24 (30 * (x.toNat) + p.toNat)).toNat : Nat) : Int))) rfl fX1_170 (sC_11 (by omega)) rfl ?_
  exact t_iret X hQ rfl rfl (by omega) (by omega) ⟨⟨by rw [← e7]; congr 3; omega, rfl, rfl, rfl⟩, by omega⟩
set_option maxHeartbeats 1000000 in
theorem tc_isFor (l : Launch) (EV : gEV) {A : gAd} {U : gV} {b c : Int} (hb : 0 ≤ b ∧ b < U 17 0) (hc : 0 ≤ c ∧ c < U 11 0) (hI : uI U) : TC l yX1_isFor cX1_isFor 2 (some .boolean) 1 0 0 EV tF [.ref (A 12 (b.toNat)), .ref (A 13 (c.toNat))] A U [] (rV (some (.int (iI (bI (U 20 b.toNat = U 13 c.toNat ∧ U 21 b.toNat = U 14 c.toNat))))) A U []) (rNo) := by
  refine t_body tbX1_isFor tkX1_isFor (by decide) (by intro v hv; simp only [List.mem_cons, List.not_mem_nil, or_false] at hv; rcases hv with rfl | rfl <;> rfl) (Nat.le_of_ble_eq_true rfl) (fun M0 z Q X hl hR hQ hE => ?_)
  subst hl
  have hu := uIs hI
  unfold uS at hu
  have qb := uIb hI (j := b) (by omega) (by omega)
  have q13 := uI13 hI (j := c) (by omega) (by omega)
  have q14 := uI14 hI (j := c) (by omega) (by omega)
  refine t_eq (ls' := [some (.ref (A 12 (b.toNat))), some (.ref (A 13 (c.toNat)))]) (st' := []) rfl rfl ?_
  refine t_run X 1 (pc1 := 1) (ls1 := [_, _]) (st1 := [_]) rfl ?_
  refine t_get X (12, (b.toNat)) (v := .int (iI (U 20 b.toNat))) rfl fX1_262 (sC_12 (by omega)) rfl ?_
  refine t_run X 1 (pc1 := 5) (ls1 := [_, _]) (st1 := [_, _]) rfl ?_
  refine t_get X (13, (c.toNat)) (v := .int (iI (U 13 c.toNat))) rfl fX1_215 (sC_13 (by omega)) rfl ?_
  refine t_br X (pc1 := 26) (st1 := []) rfl (fun b9 => ?_) (fun b9 => ?_)
  · have c8 : ¬ (U 20 b.toNat) = (U 13 c.toNat) := cNq b9 (by omega) (by omega)
    refine t_run X 1 (pc1 := 27) (ls1 := [_, _]) (st1 := [_]) rfl ?_
    exact t_zret X hQ rfl rfl rfl (by omega) (by omega) ⟨by rw [bI_0 (p := U 20 b.toNat = U 13 c.toNat ∧ U 21 b.toNat = U 14 c.toNat) (by omega)], rfl, rfl, rfl⟩
  · have c8 : (U 20 b.toNat) = (U 13 c.toNat) := cEq b9 (by omega) (by omega)
    refine t_run X 1 (pc1 := 12) (ls1 := [_, _]) (st1 := [_]) rfl ?_
    refine t_get X (12, (b.toNat)) (v := .int (iI (U 21 b.toNat))) rfl fX1_263 (sC_12 (by omega)) rfl ?_
    refine t_run X 1 (pc1 := 16) (ls1 := [_, _]) (st1 := [_, _]) rfl ?_
    refine t_get X (13, (c.toNat)) (v := .int (iI (U 14 c.toNat))) rfl fX1_127 (sC_13 (by omega)) rfl ?_
    refine t_br X (pc1 := 26) (st1 := []) rfl (fun b9 => ?_) (fun b9 => ?_)
    · have c19 : ¬ (U 21 b.toNat) = (U 14 c.toNat) := cNq b9 (by omega) (by omega)
      refine t_run X 1 (pc1 := 27) (ls1 := [_, _]) (st1 := [_]) rfl ?_
      exact t_zret X hQ rfl rfl rfl (by omega) (by omega) ⟨by rw [bI_0 (p := U 20 b.toNat = U 13 c.toNat ∧ U 21 b.toNat = U 14 c.toNat) (by omega)], rfl, rfl, rfl⟩
    · have c19 : (U 21 b.toNat) = (U 14 c.toNat) := cEq b9 (by omega) (by omega)
      refine t_run X 2 (pc1 := 27) (ls1 := [_, _]) (st1 := [_]) rfl ?_
      exact t_zret X hQ rfl rfl rfl (by omega) (by omega) ⟨by rw [bI_1 (p := U 20 b.toNat = U 13 c.toNat ∧ U 21 b.toNat = U 14 c.toNat) (by omega)], rfl, rfl, rfl⟩
set_option maxHeartbeats 1000000 in
theorem tc_fitsU (l : Launch) (EV : gEV) {A : gAd} {U : gV} {w g : Int} (hw : 0 ≤ w ∧ w < U 2 0) (hg : 0 ≤ g ∧ g ≤ 3) (hI : uI U) : TC l yX1_fits cX1_fits 3 (some .boolean) 1 0 0 EV tF [.ref (A 10 0), .ref (A 11 (w.toNat)), .int (iI g)] A U [] (rV (some (.int (iI (bI (U 4 w.toNat = -1 ∨ U 4 w.toNat = g ∨ U 8 (4 * U 4 w.toNat + g).toNat = 1))))) A U []) (rNo) := by
  refine t_body tbX1_fits tkX1_fits (by decide) (by intro v hv; simp only [List.mem_cons, List.not_mem_nil, or_false] at hv; rcases hv with rfl | rfl | rfl <;> rfl) (Nat.le_of_ble_eq_true rfl) (fun M0 z Q X hl hR hQ hE => ?_)
  subst hl
  have hu := uIs hI
  unfold uS at hu
  have q4 := uI4 hI (j := w) (by omega) (by omega)
  refine t_eq (ls' := [some (.ref (A 10 0)), some (.ref (A 11 (w.toNat))), some (.int (iI g))]) (st' := []) rfl rfl ?_
  refine t_run X 1 (pc1 := 1) (ls1 := [_, _, _]) (st1 := [_]) rfl ?_
  refine t_get X (11, (w.toNat)) (v := .int (iI (U 4 w.toNat))) rfl fX1_68 (sC_11 (by omega)) rfl ?_
  refine t_run X 1 (pc1 := 5) (ls1 := [_, _, _]) (st1 := [_, _]) rfl ?_
  refine t_br X (pc1 := 30) (st1 := []) rfl (fun b9 => ?_) (fun b9 => ?_)
  · have c5 : (U 4 w.toNat) = (-1) := cEq b9 (by omega) (by omega)
    refine t_run X 2 (pc1 := 35) (ls1 := [_, _, _]) (st1 := [_]) rfl ?_
    exact t_zret X hQ rfl rfl rfl (by omega) (by omega) ⟨by rw [bI_1 (p := U 4 w.toNat = -1 ∨ U 4 w.toNat = g ∨ U 8 (4 * U 4 w.toNat + g).toNat = 1) (by first | omega | (rw [← e8]; omega))], rfl, rfl, rfl⟩
  · have c5 : ¬ (U 4 w.toNat) = (-1) := cNq b9 (by omega) (by omega)
    refine t_run X 1 (pc1 := 9) (ls1 := [_, _, _]) (st1 := [_]) rfl ?_
    refine t_get X (11, (w.toNat)) (v := .int (iI (U 4 w.toNat))) rfl fX1_68 (sC_11 (by omega)) rfl ?_
    refine t_run X 1 (pc1 := 13) (ls1 := [_, _, _]) (st1 := [_, _]) rfl ?_
    refine t_br X (pc1 := 30) (st1 := []) rfl (fun b9 => ?_) (fun b9 => ?_)
    · have c13 : (U 4 w.toNat) = g := cEq b9 (by omega) (by omega)
      refine t_run X 2 (pc1 := 35) (ls1 := [_, _, _]) (st1 := [_]) rfl ?_
      exact t_zret X hQ rfl rfl rfl (by omega) (by omega) ⟨by rw [bI_1 (p := U 4 w.toNat = -1 ∨ U 4 w.toNat = g ∨ U 8 (4 * U 4 w.toNat + g).toNat = 1) (by first | omega | (rw [← e8]; omega))], rfl, rfl, rfl⟩
    · have c13 : ¬ (U 4 w.toNat) = g := cNq b9 (by omega) (by omega)
      refine t_run X 1 (pc1 := 17) (ls1 := [_, _, _]) (st1 := [_]) rfl ?_
      refine t_get X (10, 0) (v := .ref (A 18 0)) rfl fX1_21 sC_10 rfl ?_
      refine t_run X 1 (pc1 := 21) (ls1 := [_, _, _]) (st1 := [_, _]) rfl ?_
      refine t_get X (11, (w.toNat)) (v := .int (iI (U 4 w.toNat))) rfl fX1_68 (sC_11 (by omega)) rfl ?_
      refine t_aaldA X 6 (18, 0) (v := .ref (A 17 ((U 4 w.toNat).toNat))) rfl rfl sC_18 (gIx_i (by omega) (by omega)) (by show va_rf (if _ < 4 then _ else _) = _; rw [if_pos (by omega)]; rfl) ?_
      refine t_run X 1 (pc1 := 26) (ls1 := [_, _, _]) (st1 := [_, _]) rfl ?_
      refine t_zald X (17, (U 4 w.toNat).toNat) (v := iI (U 8 (4 * (U 4 w.toNat).toNat + g.toNat))) rfl (sC_17 (by omega)) (gIx_i (by omega) (by omega)) (by show (if _ < 4 then _ else _) = _; rw [if_pos (by omega)]) ?_
      have b8 := uI8 hI (j := 4 * U 4 w.toNat + g) (by omega) (by omega)
      have e8 : 4 * (U 4 w.toNat).toNat + g.toNat = (4 * U 4 w.toNat + g).toNat := by omega
      rw [← e8] at b8
      refine t_br X (pc1 := 34) (st1 := []) rfl (fun b9 => ?_) (fun b9 => ?_)
      · have c27 : (U 8 (4 * (U 4 w.toNat).toNat + g.toNat)) = 0 := cEq b9 (by omega) (by omega)
        refine t_run X 1 (pc1 := 35) (ls1 := [_, _, _]) (st1 := [_]) rfl ?_
        exact t_zret X hQ rfl rfl rfl (by omega) (by omega) ⟨by rw [bI_0 (p := U 4 w.toNat = -1 ∨ U 4 w.toNat = g ∨ U 8 (4 * U 4 w.toNat + g).toNat = 1) (by first | omega | (rw [← e8]; omega))], rfl, rfl, rfl⟩
      · have c27 : ¬ (U 8 (4 * (U 4 w.toNat).toNat + g.toNat)) = 0 := cNq b9 (by omega) (by omega)
        refine t_run X 2 (pc1 := 35) (ls1 := [_, _, _]) (st1 := [_]) rfl ?_
        exact t_zret X hQ rfl rfl rfl (by omega) (by omega) ⟨by rw [bI_1 (p := U 4 w.toNat = -1 ∨ U 4 w.toNat = g ∨ U 8 (4 * U 4 w.toNat + g).toNat = 1) (by first | omega | (rw [← e8]; omega))], rfl, rfl, rfl⟩
