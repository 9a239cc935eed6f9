/-! THE SYSTEM's methods walked: shunting; whether a booking is whole -/
theorem nLL {i : Nat} {t : gTag} (h : 70 ≤ t.1) : ¬ tLL i t := by
  rintro (h1 | ⟨h1, -⟩)
  · rw [h1] at h; exact absurd h (by show ¬ 70 ≤ 24; decide)
  · omega
theorem vS_id {U : gV} {k i : Nat} {x : Int} (h : x = U k i) : U = vS U k i x := by
  funext a b
  unfold vS
  split
  · rename_i h1
    rw [h1.1, h1.2, h]
  · rfl
def uWh (U : gV) (b p : Int) : Nat → Int
  | 0 => 1
  | k + 1 => if ¬ uWh U b p k = 0 ∧ U 3 (U 24 (30 * b + (k : Int)).toNat).toNat = p then 1 else 0
theorem uWh_r (U : gV) (b p : Int) (k : Nat) : uWh U b p k = 0 ∨ uWh U b p k = 1 := by
  cases k with
  | zero => exact Or.inr rfl
  | succ k => rw [uWh]; split <;> omega
/-- the deque: k wagons of track p, that had n -/
def dqF (A : gAd) (U : gV) (p n : Int) (k : Nat) : Nat → Option Nat := fun j => if 17 ≤ j + k ∧ j < 17 then some (A 11 (U 7 (6 * p + (n - 17 + (j : Int))).toNat).toNat) else none
theorem dqF_0 {A : gAd} {U : gV} {p n : Int} : dqF A U p n 0 = fun _ => none := by
  funext j
  unfold dqF
  rw [if_neg (by omega)]
theorem dqF_s {A : gAd} {U : gV} {p n : Int} {k : Nat} (hk : k < 17) : va_up (dqF A U p n k) (16 - k) (some (A 11 (U 7 (6 * p + (n - (k : Int) - 1)).toNat).toNat)) = dqF A U p n (k + 1) := by
  funext j
  unfold va_up dqF
  by_cases hj : j = 16 - k
  · subst hj
    rw [if_pos rfl, if_pos (by omega), show n - 17 + ((16 - k : Nat) : Int) = n - (k : Int) - 1 by omega]
  · rw [if_neg hj]
    by_cases h2 : 17 ≤ j + k ∧ j < 17
    · rw [if_pos h2, if_pos (by omega)]
    · rw [if_neg h2, if_neg (by omega)]
def uSh (W : gV) (f p : Int) : Nat → gV
  | 0 => W
  | k + 1 => uPut (vS (uSh W f p k) 3 (uSh W f p k 7 (6 * f + uSh W f p k 6 f.toNat + (k : Int)).toNat).toNat p) p (uSh W f p k 7 (6 * f + uSh W f p k 6 f.toNat + (k : Int)).toNat)
theorem uPut_k {U : gV} {p w : Int} {k i : Nat} (h : k ≠ 7) (h6 : k ≠ 6) : uPut U p w k i = U k i := by rw [uPut, vS_k h6, vS_k h]
theorem uSh_k {W : gV} {f p : Int} {k i : Nat} (h : k ≠ 7) (h6 : k ≠ 6) (h3 : k ≠ 3) (n : Nat) : uSh W f p n k i = W k i := by
  induction n with
  | zero => rfl
  | succ n ih => rw [uSh, uPut_k h h6, vS_k h3, ih]
theorem uSh_6 {W : gV} {f p : Int} (n : Nat) : uSh W f p n 6 p.toNat = W 6 p.toNat + n := by
  induction n with
  | zero => show W 6 _ = W 6 _ + 0; omega
  | succ n ih =>
    rw [uSh, uPut, vS_s, vS_k (by decide), ih]
    omega
theorem uSh_6n {W : gV} {f p : Int} {i : Nat} (h : i ≠ p.toNat) (n : Nat) : uSh W f p n 6 i = W 6 i := by
  induction n with
  | zero => rfl
  | succ n ih => rw [uSh, uPut, vS_i h, vS_k (by decide), vS_k (by decide), ih]
theorem uSh_7n {W : gV} {f p : Int} {i : Nat} (hp : 0 ≤ p) (h0 : 0 ≤ W 6 p.toNat) (n : Nat) (h : ∀ j : Nat, j < n → i ≠ (6 * p + W 6 p.toNat + j).toNat) : uSh W f p n 7 i = W 7 i := by
  induction n with
  | zero => rfl
  | succ n ih =>
    rw [uSh, uPut, vS_k (by decide), vS_i, vS_k (by decide), ih (fun j hj => h j (by omega))]
    rw [vS_k (by decide), uSh_6]
    have := h n (by omega)
    rwa [show 6 * p + (W 6 p.toNat + (n : Int)) = 6 * p + W 6 p.toNat + n by omega]
def uShu (U : gV) (f p m : Int) : gV := vS (uEv (uSh (vS U 6 f.toNat (U 6 f.toNat - m)) f p m.toNat) 1 f p m) 33 0 (uEv (uSh (vS U 6 f.toNat (U 6 f.toNat - m)) f p m.toNat) 1 f p m 33 0 + 1)
section
variable {z : gZ} {S : gS} {EV : gEV} {Q : State → Prop} {M0 : gM} {T : gTag → Prop} {A : gAd} {U : gV} {x1 x2 x3 : Nat × gTag × va_E} {k n pc : Nat} {ls : List (Option Value)} {st : List Value}
theorem t_drop3 (kk : gTd z S EV Q T M0 A U [] k n pc ls st) : gTd z S EV Q T M0 A U [x1, x2, x3] k n pc ls st :=
  fun M h1 h2 h3 => kk M h1 (fun x hx => nomatch hx) h3
end
set_option maxHeartbeats 1000000 in
theorem tc_isWhole (l : Launch) (EV : gEV) {A : gAd} {U : gV} {b p : Int} (hb : 0 ≤ b ∧ b < U 17 0) (hp : inR p) (hI : uI U) : TC l yX1_isWhole cX1_isWhole 5 (some .boolean) 5 1 4 EV (tO (76, 0)) [.ref (A 12 (b.toNat)), .int (iI p)] A U [] (fun w A9 U9 L9 => w = some (.int (iI (uWh U b p (U 23 b.toNat).toNat))) ∧ A9 = A ∧ U9 = U ∧ L9 = L9) (rNo) := by
  refine t_body tbX1_isWhole tkX1_isWhole (by decide) (by intro v hv; simp only [List.mem_cons, List.not_mem_nil, or_false] at hv; rcases hv with rfl | rfl <;> rfl) (Nat.le_of_ble_eq_true rfl) (fun M0 z Q X hl hR hQ hE => ?_)
  subst hl
  have hu := uIs hI
  unfold uS at hu
  have bb := uIb hI (j := b) (by omega) (by omega)
  have hal : alL U (10 + b.toNat) := by unfold alL; omega
  have hN : alN U (10 + b.toNat) = U 23 b.toNat := alN_b _ (by omega)
  have loop : ∀ (q j k : Nat), (k : Int) + j = U 23 b.toNat → gTd z (cX1_isWhole, yX1_isWhole.cls, 5, (some .boolean), tbX1_isWhole, yX1_isWhole.name) EV Q (tO (76, 0)) M0 A U [(q, (76, 0), itA (A 30 (10 + b.toNat)) (U 23 b.toNat).toNat k)] 1 4 10 [some (.ref (A 12 (b.toNat))), some (.int (iI p)), some (.int (iI (uWh U b p k))), some (.ref q), none] [] := by
    intro q j
    induction j with
    | zero =>
      intro k hk
      refine t_run X 1 (pc1 := 11) (ls1 := [_, _, _, _, _]) (st1 := [_]) rfl ?_
      refine t_callF X [0] [] rfl mX1_112_14 (tc_alhasN z.2.1 EV (k := k) hal hN (by omega) (by omega)) (fun M _ h => ⟨_, _, h.at (i := 0) rfl⟩) rfl rfl (fun _ h => h.elim) (fun _ _ h => h) rfl rfl (Nat.le_of_ble_eq_true rfl) (gFit.of hR (by decide) (Nat.le_of_ble_eq_true rfl) (Nat.le_of_ble_eq_true rfl)) (fun _ h => h.elim) (fun v9 A9 U9 L9 h9 => ?_)
      obtain ⟨rfl, h7, h8, rfl⟩ := h9
      obtain rfl := h7.symm
      obtain rfl := h8.symm
      refine t_eq (st' := [.int (iI (bI (¬ ((k : Nat) : Int) = U 23 b.toNat)))]) rfl rfl ?_
      refine t_L (L' := [(q, (76, 0), itA (A 30 (10 + b.toNat)) (U 23 b.toNat).toNat k)]) rfl ?_
      refine t_br X (pc1 := 50) (st1 := []) rfl (fun b9 => ?_) (fun b9 => ?_)
      · have c16 : ¬ (¬ ((k : Nat) : Int) = U 23 b.toNat) := bI_f b9
        refine t_run X 1 (pc1 := 51) (ls1 := [_, _, _, _, _]) (st1 := [_]) rfl ?_
        have e9 : k = (U 23 b.toNat).toNat := by omega
        subst e9
        exact t_zret X hQ rfl rfl (bI_n2 (uWh_r U b p _)) (by omega) (by omega) ⟨rfl, rfl, rfl, rfl⟩
      · have c16 : ¬ ((k : Nat) : Int) = U 23 b.toNat := bI_t b9
        exact absurd (by omega) c16
    | succ j ih =>
      intro k hk
      have hF : alF A U (10 + b.toNat) k = A 11 (U 24 (30 * b + (k : Int)).toNat).toNat := by
        rw [alF_b _ _ (by omega), show 30 * b.toNat + k = (30 * b + (k : Int)).toNat by omega]
      have h24 := uI24 hI (a := b) (k := (k : Int)) (by omega) (by omega) (by omega) (by omega)
      have h3 := uI3 hI (j := U 24 (30 * b + (k : Int)).toNat) (by omega) (by omega)
      refine t_run X 1 (pc1 := 11) (ls1 := [_, _, _, _, _]) (st1 := [_]) rfl ?_
      refine t_callF X [0] [] rfl mX1_112_14 (tc_alhasN z.2.1 EV (k := k) hal hN (by omega) (by omega)) (fun M _ h => ⟨_, _, h.at (i := 0) rfl⟩) rfl rfl (fun _ h => h.elim) (fun _ _ h => h) rfl rfl (Nat.le_of_ble_eq_true rfl) (gFit.of hR (by decide) (Nat.le_of_ble_eq_true rfl) (Nat.le_of_ble_eq_true rfl)) (fun _ h => h.elim) (fun v9 A9 U9 L9 h9 => ?_)
      obtain ⟨rfl, h7, h8, rfl⟩ := h9
      obtain rfl := h7.symm
      obtain rfl := h8.symm
      refine t_eq (st' := [.int (iI (bI (¬ ((k : Nat) : Int) = U 23 b.toNat)))]) rfl rfl ?_
      refine t_L (L' := [(q, (76, 0), itA (A 30 (10 + b.toNat)) (U 23 b.toNat).toNat k)]) rfl ?_
      refine t_br X (pc1 := 50) (st1 := []) rfl (fun b9 => ?_) (fun b9 => ?_)
      · have c16 : ¬ (¬ ((k : Nat) : Int) = U 23 b.toNat) := bI_f b9
        exact absurd (by omega) c16
      · have c16 : ¬ ((k : Nat) : Int) = U 23 b.toNat := bI_t b9
        refine t_run X 1 (pc1 := 20) (ls1 := [_, _, _, _, _]) (st1 := [_]) rfl ?_
        refine t_callF X [0] [] rfl mX1_117_14 (tc_alnextN z.2.1 EV (u := (76, 0)) (k := k) hal hN (by omega) (by decide) (by omega) hF) (fun M _ h => ⟨_, _, h.at (i := 0) rfl⟩) rfl rfl (fun _ h => h) (fun _ h => by cases h) rfl rfl (Nat.le_of_ble_eq_true rfl) (gFit.of hR (by decide) (Nat.le_of_ble_eq_true rfl) (Nat.le_of_ble_eq_true rfl)) (fun _ h => h.elim) (fun v9 A9 U9 L9 h9 => ?_)
        obtain ⟨rfl, h7, h8, rfl⟩ := h9
        obtain rfl := h7.symm
        obtain rfl := h8.symm
        refine t_eq (st' := [.ref (A 11 ((U 24 (30 * b + (k : Int)).toNat).toNat))]) rfl rfl ?_
        refine t_L (L' := [(q, (76, 0), itA (A 30 (10 + b.toNat)) (U 23 b.toNat).toNat (k + 1))]) rfl ?_
        refine t_cast X rfl kX1_69_7 (fun M h _ => ⟨_, _, h.1 (11, ((U 24 (30 * b + (k : Int)).toNat).toNat)) _ (sC_11 (by first | omega | (show _ < U 41 0; omega) | (simp [vS]; omega)))⟩) ?_
        refine t_run X 3 (pc1 := 33) (ls1 := [_, _, _, _, _]) (st1 := [_, _]) rfl ?_
        refine t_get X (11, ((U 24 (30 * b + (k : Int)).toNat).toNat)) (v := .int (iI (U 3 (U 24 (30 * b + (k : Int)).toNat).toNat))) rfl fX1_185 (sC_11 (by first | omega | (show _ < U 41 0; omega) | (simp [vS]; omega))) rfl ?_
        refine t_run X 1 (pc1 := 37) (ls1 := [_, _, _, _, _]) (st1 := [_, _, _]) rfl ?_
        refine t_br X (pc1 := 44) (st1 := [_]) rfl (fun b9 => ?_) (fun b9 => ?_)
        · have c37 : ¬ (U 3 (U 24 (30 * b + (k : Int)).toNat).toNat) = p := cNq b9 (by omega) (by omega)
          refine t_run X 1 (pc1 := 45) (ls1 := [_, _, _, _, _]) (st1 := [_, _]) rfl ?_
          refine t_run X 1 (pc1 := 46) (ls1 := [_, _, _, _, _]) (st1 := [_]) rfl ?_
          refine t_eq (st' := [.int (iI 0)]) rfl (by rcases uWh_r U b p k with h | h <;> rw [h] <;> rfl) ?_
          refine t_run X 2 (pc1 := 10) (ls1 := [_, _, _, _, _]) (st1 := []) rfl ?_
          have e9 : uWh U b p (k + 1) = 0 := by rw [uWh, if_neg (by omega)]
          have h9 := ih (k + 1) (by omega)
          rw [e9] at h9
          exact t_forget [true, true, true, true, false] rfl h9
        · have c37 : (U 3 (U 24 (30 * b + (k : Int)).toNat).toNat) = p := cEq b9 (by omega) (by omega)
          refine t_run X 2 (pc1 := 45) (ls1 := [_, _, _, _, _]) (st1 := [_, _]) rfl ?_
          refine t_run X 1 (pc1 := 46) (ls1 := [_, _, _, _, _]) (st1 := [_]) rfl ?_
          refine t_eq (st' := [.int (iI (uWh U b p k))]) rfl (by rcases uWh_r U b p k with h | h <;> rw [h] <;> rfl) ?_
          refine t_run X 2 (pc1 := 10) (ls1 := [_, _, _, _, _]) (st1 := []) rfl ?_
          have e9 : uWh U b p (k + 1) = uWh U b p k := by rcases uWh_r U b p k with h | h; (rw [uWh, if_neg (by omega), h]); rw [uWh, if_pos (by omega), h]
          have h9 := ih (k + 1) (by omega)
          rw [e9] at h9
          exact t_forget [true, true, true, true, false] rfl h9
  refine t_eq (ls' := [some (.ref (A 12 (b.toNat))), some (.int (iI p)), none, none, none]) (st' := []) rfl rfl ?_
  refine t_run X 3 (pc1 := 3) (ls1 := [_, _, _, _, _]) (st1 := [_]) rfl ?_
  refine t_get X (12, (b.toNat)) (v := .ref (A 30 (10 + b.toNat))) rfl fX1_246 (sC_12 (by first | omega | (show _ < U 42 0; omega) | (simp [vS]; omega))) rfl ?_
  refine t_callV X [] [] rfl mX1_108 (tc_aliterN z.2.1 EV (U := U) (i := 10 + b.toNat) hal hN (76, 0) (by decide)) (fun M h _ => gAL_at (h.2.1 (10 + b.toNat) (by unfold alL; first | omega | (show _ ∨ (_ ∧ _ ∧ _ < U 42 0) ∨ (_ ∧ _ < U 43 0); omega)))) rfl rfl (fun _ h => h) (fun _ h => by cases h) rfl rfl (Nat.le_of_ble_eq_true rfl) (gFit.of hR (by decide) (Nat.le_of_ble_eq_true rfl) (Nat.le_of_ble_eq_true rfl)) (fun _ h => h.elim) (fun v9 A9 U9 L9 h9 => ?_)
  obtain ⟨q1, rfl, h7, h8, rfl⟩ := h9
  obtain rfl := h7.symm
  obtain rfl := h8.symm
  refine t_eq (st' := [.ref q1]) rfl rfl ?_
  refine t_L (L' := [(q1, (76, 0), itA (A 30 (10 + b.toNat)) (U 23 b.toNat).toNat 0)]) rfl ?_
  refine t_run X 1 (pc1 := 10) (ls1 := [_, _, _, _, _]) (st1 := []) rfl ?_
  exact loop q1 (U 23 b.toNat).toNat 0 (by omega)
set_option maxHeartbeats 1000000 in
theorem tc_shuntU (l : Launch) (EV : gEV) {A : gAd} {U : gV} {y f t m : Int} (hy : inR y) (hf : inR f) (ht : inR t) (hm : inR m) (hev : U 33 0 < 64) (hI : uI U) : TC l yX1_shunt cX1_shunt 10 (some .int) 12 30 4000 EV tSys [.ref (A 10 0), .int (iI y), .int (iI f), .int (iI t), .int (iI m)] A U [] (fun w A9 U9 L9 => (w = some (.int (iI (U 6 (5 * y + t).toNat + m))) ∧ A9 10 0 = A 10 0 ∧ U9 = uShu U (5 * y + f) (5 * y + t) m) ∧ (isYd y ∧ (0 ≤ f ∧ f ≤ 4) ∧ (0 ≤ t ∧ t ≤ 4) ∧ ¬ f = t ∧ 1 ≤ m ∧ m ≤ 6) ∧ m ≤ U 6 (5 * y + f).toNat ∧ U 6 (5 * y + t).toNat + m ≤ 6) (fun E => E = cIAE ∧ ¬ (isYd y ∧ (0 ≤ f ∧ f ≤ 4) ∧ (0 ≤ t ∧ t ≤ 4) ∧ ¬ f = t ∧ 1 ≤ m ∧ m ≤ 6) ∨ E = cISE ∧ (isYd y ∧ (0 ≤ f ∧ f ≤ 4) ∧ (0 ≤ t ∧ t ≤ 4) ∧ ¬ f = t ∧ 1 ≤ m ∧ m ≤ 6) ∧ ¬ (m ≤ U 6 (5 * y + f).toNat ∧ U 6 (5 * y + t).toNat + m ≤ 6)) := by
  refine t_body tbX1_shunt tkX1_shunt (by decide) (by intro v hv; simp only [List.mem_cons, List.not_mem_nil, or_false] at hv; rcases hv with rfl | rfl | rfl | rfl | rfl <;> rfl) (Nat.le_of_ble_eq_true rfl) (fun M0 z Q X hl hR hQ hE => ?_)
  subst hl
  have hu := uIs hI
  unfold uS at hu
  have k169 : ((0 ≤ y ∧ y ≤ 2) ∧ (0 ≤ f ∧ f ≤ 4) ∧ (0 ≤ t ∧ t ≤ 4) ∧ ¬ f = t ∧ (1 ≤ m ∧ m ≤ 6) ∧ m ≤ U 6 (5 * y + f).toNat ∧ U 6 (5 * y + t).toNat + m ≤ 6 ∧ 0 ≤ U 6 (5 * y + t).toNat ∧ U 6 (5 * y + f).toNat ≤ 6) → ∀ (qd q9 kc kn : Nat), kc ≤ 20 → kn ≤ 110 → gTd z (cX1_shunt, yX1_shunt.cls, 10, (some .int), tbX1_shunt, yX1_shunt.name) EV Q tSys M0 A (uSh (vS U 6 (5 * y + f).toNat (U 6 (5 * y + f).toNat - m)) (5 * y + f) (5 * y + t) m.toNat) [] kc kn 169 [some (.ref (A 10 0)), some (.int (iI y)), some (.int (iI f)), some (.int (iI t)), some (.int (iI m)), some (.ref (A 24 ((5 * y + f).toNat))), some (.ref (A 24 ((5 * y + t).toNat))), some (.ref qd), some (.ref q9), none] [] := by
    intro hB qd q9 kc kn hkc hkn
    have g46 : (uSh (vS U 6 (5 * y + f).toNat (U 6 (5 * y + f).toNat - m)) (5 * y + f) (5 * y + t) m.toNat) 46 0 = U 46 0 := uSh_k (by decide) (by decide) (by decide) _
    have g33 : (uSh (vS U 6 (5 * y + f).toNat (U 6 (5 * y + f).toNat - m)) (5 * y + f) (5 * y + t) m.toNat) 33 0 = U 33 0 := uSh_k (by decide) (by decide) (by decide) _
    have g46n := g46
    refine t_run X 1 (pc1 := 170) (ls1 := [_, _, _, _, _, _, _, _, _, _]) (st1 := [_]) rfl ?_
    refine t_get X (10, 0) (v := .ref (A 30 5)) rfl fX1_44 sC_10 rfl ?_
    refine t_new X (16, (U 46 0).toNat) rfl nX1_188 (rc hR (by omega)) (rs hR (by omega)) (fun q1 => ?_)
    refine t_L (L' := [(q1, (16, (U 46 0).toNat), .inr (12, [.int (iI 0), .int (iI 0), .int (iI 0)]))]) rfl ?_
    refine t_run X 12 (pc1 := 189) (ls1 := [_, _, _, _, _, _, _, _, _, _]) (st1 := [_, _, _, _, _, _]) rfl ?_
    refine t_eq (ls' := [some (.ref (A 10 0)), some (.int (iI y)), some (.int (iI f)), some (.int (iI t)), some (.int (iI m)), some (.ref (A 24 ((5 * y + f).toNat))), some (.ref (A 24 ((5 * y + t).toNat))), some (.ref qd), some (.ref q9), none]) (st' := [.int (iI m), .int (iI ((5 * y) + t)), .int (iI ((5 * y) + f)), .ref q1, .ref q1, .ref (A 30 5)]) (by first | rfl | (simp only [iI_add, iI_sub, iI_mul, iI_neg]; done) | (simp only [iI_add, iI_sub, iI_mul, iI_neg] <;> rfl)) (by first | rfl | (simp only [iI_add, iI_sub, iI_mul, iI_neg]; done) | (simp only [iI_add, iI_sub, iI_mul, iI_neg] <;> rfl)) ?_
    refine t_callI X [0] [] rfl mX1_190 (TC.ofJ (jc_shunted_init z.2.1 EV (a := q1) (t := (16, (U 46 0).toNat)) (x := ((5 * y) + f)) (y := ((5 * y) + t)) (w := m)) (fun _ _ _ => trivial) (fun t9 h => h ▸ tDead_c (by decide) (if_neg (by rw [g46]; show ¬ ((U 46 0).toNat : Int) < U 46 0; omega)))) rfl rfl (fun _ h => by rw [h]; exact Nat.ne_of_beq_eq_false rfl) (fun _ h => by cases h) rfl rfl (Nat.le_of_ble_eq_true rfl) (gFit.of hR (by decide) (by omega) (by omega)) (fun _ h => h.elim) (fun v9 A9 U9 L9 h9 => ?_)
    obtain ⟨⟨rfl, rfl⟩, h7, h8⟩ := h9
    obtain rfl := h7.symm
    subst h8
    refine t_eq (st' := [.ref q1, .ref (A 30 5)]) rfl rfl ?_
    refine t_L (L' := [(q1, (16, (U 46 0).toNat), .inr (12, [.int (iI ((5 * y) + f)), .int (iI ((5 * y) + t)), .int (iI m)]))]) rfl ?_
    refine t_take (A' := (aS A 16 (U 46 0).toNat q1)) (U' := (uEv (uSh (vS U 6 (5 * y + f).toNat (U 6 (5 * y + f).toNat - m)) (5 * y + f) (5 * y + t) m.toNat) 1 (5 * y + f) (5 * y + t) m)) (L' := []) (fun M hD hL => ⟨by rw [← g46n]; exact hD.newE (k := 1) (x := (5 * y + f)) (y := (5 * y + t)) (w := m) (by omega) (by omega) (by rw [g46n]; exact hL.at (i := 0) rfl), fun x hx => nomatch hx⟩) ?_
    have e46 : (uEv (uSh (vS U 6 (5 * y + f).toNat (U 6 (5 * y + f).toNat - m)) (5 * y + f) (5 * y + t) m.toNat) 1 (5 * y + f) (5 * y + t) m) 46 0 = U 46 0 + 1 := by show vS _ 46 0 ((uSh (vS U 6 (5 * y + f).toNat (U 6 (5 * y + f).toNat - m)) (5 * y + f) (5 * y + t) m.toNat) 46 0 + 1) 46 0 = _; rw [vS_s]; omega
    have e33 : (uEv (uSh (vS U 6 (5 * y + f).toNat (U 6 (5 * y + f).toNat - m)) (5 * y + f) (5 * y + t) m.toNat) 1 (5 * y + f) (5 * y + t) m) 33 0 = U 46 0 := by show (uSh (vS U 6 (5 * y + f).toNat (U 6 (5 * y + f).toNat - m)) (5 * y + f) (5 * y + t) m.toNat) 33 0 = _; omega
    refine t_callV X [] [] rfl mX1_50 (tc_add5 z.2.1 EV (A := (aS A 16 (U 46 0).toNat q1)) (U := (uEv (uSh (vS U 6 (5 * y + f).toNat (U 6 (5 * y + f).toNat - m)) (5 * y + f) (5 * y + t) m.toNat) 1 (5 * y + f) (5 * y + t) m)) (by show 0 ≤ (uEv (uSh (vS U 6 (5 * y + f).toNat (U 6 (5 * y + f).toNat - m)) (5 * y + f) (5 * y + t) m.toNat) 1 (5 * y + f) (5 * y + t) m) 33 0 ∧ (uEv (uSh (vS U 6 (5 * y + f).toNat (U 6 (5 * y + f).toNat - m)) (5 * y + f) (5 * y + t) m.toNat) 1 (5 * y + f) (5 * y + t) m) 33 0 ≤ 72; omega) (by omega) (by rw [e33]; exact aS_s)) (fun M h _ => gAL_at (h.2.1 5 (by unfold alL; omega))) rfl rfl (fun t h => by rcases h with h | ⟨h, -⟩; (rw [h]; exact Nat.ne_of_beq_eq_false rfl); show ¬ t.1 = 9; omega) (fun _ h => by cases h) rfl rfl (Nat.le_of_ble_eq_true rfl) (gFit.of hR (by decide) (by omega) (by omega)) (fun _ h => h.elim) (fun v9 A9 U9 L9 h9 => ?_)
    obtain ⟨rfl, h7, h8, rfl⟩ := h9
    subst h7
    subst h8
    refine t_eq (st' := [.int (iI 1)]) rfl rfl ?_
    refine t_run X 2 (pc1 := 198) (ls1 := [_, _, _, _, _, _, _, _, _, _]) (st1 := [_]) rfl ?_
    refine t_callV X [] [] rfl mX1_78 (tc_llsizeN z.2.1 EV (i := (5 * y + t).toNat) (by unfold llL; omega) (n := U 6 (5 * y + t).toNat + m) ((llN_t (by omega)).trans (by show (uSh (vS U 6 (5 * y + f).toNat (U 6 (5 * y + f).toNat - m)) (5 * y + f) (5 * y + t) m.toNat) 6 (5 * y + t).toNat = _; rw [uSh_6, vS_i (by omega)]; omega)) (by omega)) (fun M h _ => gLk_at (h.2.2 _ (by unfold llL; omega))) rfl rfl (fun _ h => h.elim) (fun _ _ h => h) rfl rfl (Nat.le_of_ble_eq_true rfl) (gFit.of hR (by decide) (by omega) (by omega)) (fun _ h => h.elim) (fun v9 A9 U9 L9 h9 => ?_)
    obtain ⟨rfl, h7, h8, rfl⟩ := h9
    obtain rfl := h7.symm
    obtain rfl := h8.symm
    refine t_eq (st' := [.int (iI (U 6 (5 * y + t).toNat + m))]) rfl rfl ?_
    exact t_iret X hQ rfl rfl (by omega) (by omega) ⟨⟨rfl, rfl, rfl⟩, by omega⟩
  have loop2 : ((0 ≤ y ∧ y ≤ 2) ∧ (0 ≤ f ∧ f ≤ 4) ∧ (0 ≤ t ∧ t ≤ 4) ∧ ¬ f = t ∧ (1 ≤ m ∧ m ≤ 6) ∧ m ≤ U 6 (5 * y + f).toNat ∧ U 6 (5 * y + t).toNat + m ≤ 6 ∧ 0 ≤ U 6 (5 * y + t).toNat ∧ U 6 (5 * y + f).toNat ≤ 6) → ∀ (qd da q9 j k : Nat), (k : Int) + j = m → ∀ kc kn : Nat, kc + j ≤ 20 → kn + 3 * j ≤ 110 → ∀ lr : Value, gTd z (cX1_shunt, yX1_shunt.cls, 10, (some .int), tbX1_shunt, yX1_shunt.name) EV Q tSys M0 A (uSh (vS U 6 (5 * y + f).toNat (U 6 (5 * y + f).toNat - m)) (5 * y + f) (5 * y + t) k) [(q9, (74, 0), .inr (11, [.int (iI (if ((k : Int) : Int) < m then 17 - m + ((k : Int) : Int) else 0)), .int (iI (m - ((k : Int) : Int))), lr, .ref qd])), (qd, (72, 0), .inr (10, [.ref da, .int (iI (17 - m)), .int (iI 0)])), (da, (73, 0), .inl (EV.2.1 2, 17, .inr (.inr (.inr (.inr (dqF A U (5 * y + f) (U 6 (5 * y + f).toNat) m.toNat))))))] kc kn 127 [some (.ref (A 10 0)), some (.int (iI y)), some (.int (iI f)), some (.int (iI t)), some (.int (iI m)), some (.ref (A 24 ((5 * y + f).toNat))), some (.ref (A 24 ((5 * y + t).toNat))), some (.ref qd), some (.ref q9), none] [] := by
    intro hB qd da q9 j
    induction j with
    | zero =>
      intro k hk kc kn hkc hkn lr
      have e41 : (uSh (vS U 6 (5 * y + f).toNat (U 6 (5 * y + f).toNat - m)) (5 * y + f) (5 * y + t) k) 41 0 = U 41 0 := uSh_k (by decide) (by decide) (by decide) k
      have e6p : (uSh (vS U 6 (5 * y + f).toNat (U 6 (5 * y + f).toNat - m)) (5 * y + f) (5 * y + t) k) 6 (5 * y + t).toNat = U 6 (5 * y + t).toNat + k := by rw [uSh_6, vS_i (by omega)]
      refine t_run X 1 (pc1 := 129) (ls1 := [_, _, _, _, _, _, _, _, _, _]) (st1 := [_]) rfl ?_
      refine t_callF X [0] [1, 2] rfl mX1_112_11 (TC.ofJ (jc_dqi_has z.2.1 EV (c0 := m - (k : Int)) (by omega)) (fun _ _ _ => trivial) (fun _ h => h.elim)) (fun M _ h => ⟨_, _, h.at (i := 0) rfl⟩) rfl rfl (fun _ h => h.elim) (fun _ _ h => h) rfl rfl (Nat.le_of_ble_eq_true rfl) (gFit.of hR (by decide) (by omega) (by omega)) (fun _ h => h.elim) (fun v9 A9 U9 L9 h9 => ?_)
      obtain ⟨⟨rfl, rfl⟩, h7, h8⟩ := h9
      obtain rfl := h7.symm
      obtain rfl := h8.symm
      refine t_eq (st' := [.int (iI (bI (0 < m - (k : Int))))]) rfl rfl ?_
      refine t_L (L' := [(q9, (74, 0), .inr (11, [.int (iI (if ((k : Int) : Int) < m then 17 - m + ((k : Int) : Int) else 0)), .int (iI (m - ((k : Int) : Int))), lr, .ref qd])), (qd, (72, 0), .inr (10, [.ref da, .int (iI (17 - m)), .int (iI 0)])), (da, (73, 0), .inl (EV.2.1 2, 17, .inr (.inr (.inr (.inr (dqF A U (5 * y + f) (U 6 (5 * y + f).toNat) m.toNat))))))]) rfl ?_
      refine t_br X (pc1 := 169) (st1 := []) rfl (fun b9 => ?_) (fun b9 => ?_)
      · have c134 : ¬ (0 < m - (k : Int)) := bI_f b9
        have e9 : k = m.toNat := by omega
        subst e9
        refine t_drop3 ?_
        exact k169 hB qd q9 _ _ (by omega) (by omega)
      · have c134 : 0 < m - (k : Int) := bI_t b9
        exact absurd c134 (by omega)
    | succ j ih =>
      intro k hk kc kn hkc hkn lr
      have e41 : (uSh (vS U 6 (5 * y + f).toNat (U 6 (5 * y + f).toNat - m)) (5 * y + f) (5 * y + t) k) 41 0 = U 41 0 := uSh_k (by decide) (by decide) (by decide) k
      have e6p : (uSh (vS U 6 (5 * y + f).toNat (U 6 (5 * y + f).toNat - m)) (5 * y + f) (5 * y + t) k) 6 (5 * y + t).toNat = U 6 (5 * y + t).toNat + k := by rw [uSh_6, vS_i (by omega)]
      have e6f : (uSh (vS U 6 (5 * y + f).toNat (U 6 (5 * y + f).toNat - m)) (5 * y + f) (5 * y + t) k) 6 (5 * y + f).toNat = U 6 (5 * y + f).toNat - m := by rw [uSh_6n (by omega), vS_s]
      have e7 : (uSh (vS U 6 (5 * y + f).toNat (U 6 (5 * y + f).toNat - m)) (5 * y + f) (5 * y + t) k 7 (6 * (5 * y + f) + uSh (vS U 6 (5 * y + f).toNat (U 6 (5 * y + f).toNat - m)) (5 * y + f) (5 * y + t) k 6 (5 * y + f).toNat + (k : Int)).toNat) = U 7 (6 * (5 * y + f) + (U 6 (5 * y + f).toNat - m + (k : Int))).toNat := by
        rw [e6f, show 6 * (5 * y + f) + (U 6 (5 * y + f).toNat - m) + (k : Int) = 6 * (5 * y + f) + (U 6 (5 * y + f).toNat - m + (k : Int)) by omega, uSh_7n (by omega) (by rw [vS_i (by omega)]; omega) k (fun j hj => by rw [vS_i (by omega)]; omega)]; rfl
      have h7w := uI7 hI (a := (5 * y + f)) (k := U 6 (5 * y + f).toNat - m + (k : Int)) (by omega) (by omega) (by omega) (by omega)
      rw [← e7] at h7w
      have hf9 : dqF A U (5 * y + f) (U 6 (5 * y + f).toNat) m.toNat (if (k : Int) < m then 17 - m + (k : Int) else 0).toNat = some (A 11 (uSh (vS U 6 (5 * y + f).toNat (U 6 (5 * y + f).toNat - m)) (5 * y + f) (5 * y + t) k 7 (6 * (5 * y + f) + uSh (vS U 6 (5 * y + f).toNat (U 6 (5 * y + f).toNat - m)) (5 * y + f) (5 * y + t) k 6 (5 * y + f).toNat + (k : Int)).toNat).toNat) := by
        rw [if_pos (by omega)]; unfold dqF; rw [if_pos (by omega), e7]; congr 4; omega
      have ec9 : (if (if (k : Int) < m then 17 - m + (k : Int) else 0) + 1 < (17 : Int) then (if (k : Int) < m then 17 - m + (k : Int) else 0) + 1 else 0) = (if ((k + 1 : Nat) : Int) < m then 17 - m + ((k + 1 : Nat) : Int) else 0) := by
        rw [if_pos (show (k : Int) < m by omega)]
        by_cases hl : ((k + 1 : Nat) : Int) < m
        · rw [if_pos (by omega), if_pos hl]; omega
        · rw [if_neg (by omega), if_neg hl]
      refine t_run X 1 (pc1 := 129) (ls1 := [_, _, _, _, _, _, _, _, _, _]) (st1 := [_]) rfl ?_
      refine t_callF X [0] [1, 2] rfl mX1_112_11 (TC.ofJ (jc_dqi_has z.2.1 EV (c0 := m - (k : Int)) (by omega)) (fun _ _ _ => trivial) (fun _ h => h.elim)) (fun M _ h => ⟨_, _, h.at (i := 0) rfl⟩) rfl rfl (fun _ h => h.elim) (fun _ _ h => h) rfl rfl (Nat.le_of_ble_eq_true rfl) (gFit.of hR (by decide) (by omega) (by omega)) (fun _ h => h.elim) (fun v9 A9 U9 L9 h9 => ?_)
      obtain ⟨⟨rfl, rfl⟩, h7, h8⟩ := h9
      obtain rfl := h7.symm
      obtain rfl := h8.symm
      refine t_eq (st' := [.int (iI (bI (0 < m - (k : Int))))]) rfl rfl ?_
      refine t_L (L' := [(q9, (74, 0), .inr (11, [.int (iI (if ((k : Int) : Int) < m then 17 - m + ((k : Int) : Int) else 0)), .int (iI (m - ((k : Int) : Int))), lr, .ref qd])), (qd, (72, 0), .inr (10, [.ref da, .int (iI (17 - m)), .int (iI 0)])), (da, (73, 0), .inl (EV.2.1 2, 17, .inr (.inr (.inr (.inr (dqF A U (5 * y + f) (U 6 (5 * y + f).toNat) m.toNat))))))]) rfl ?_
      refine t_br X (pc1 := 169) (st1 := []) rfl (fun b9 => ?_) (fun b9 => ?_)
      · have c134 : ¬ (0 < m - (k : Int)) := bI_f b9
        exact absurd c134 (by omega)
      · have c134 : 0 < m - (k : Int) := bI_t b9
        refine t_run X 1 (pc1 := 139) (ls1 := [_, _, _, _, _, _, _, _, _, _]) (st1 := [_]) rfl ?_
        refine t_callF X [0, 1, 2] [] rfl mX1_117_11 (TC.ofJ (jc_dqi_next z.2.1 EV (a := qd) (d := da) (t := (72, 0)) (u := (74, 0)) (w := (73, 0)) (by decide) (by decide) (by decide) (y := A 11 (uSh (vS U 6 (5 * y + f).toNat (U 6 (5 * y + f).toNat - m)) (5 * y + f) (5 * y + t) k 7 (6 * (5 * y + f) + uSh (vS U 6 (5 * y + f).toNat (U 6 (5 * y + f).toNat - m)) (5 * y + f) (5 * y + t) k 6 (5 * y + f).toNat + (k : Int)).toNat).toNat) (c0 := if (k : Int) < m then 17 - m + (k : Int) else 0) (r0 := m - (k : Int)) (by rw [if_pos (by omega)]; omega) (by omega) hf9) (fun _ _ _ => trivial) (fun t9 h => h ▸ tDead_loc (by decide))) (fun M _ h => ⟨_, _, h.at (i := 0) rfl⟩) rfl rfl (fun _ h => by rw [h]; exact Nat.ne_of_beq_eq_false rfl) (fun _ h => by cases h) rfl rfl (Nat.le_of_ble_eq_true rfl) (gFit.of hR (by decide) (by omega) (by omega)) (fun _ h => h.elim) (fun v9 A9 U9 L9 h9 => ?_)
        obtain ⟨⟨rfl, rfl⟩, h7, h8⟩ := h9
        obtain rfl := h7.symm
        obtain rfl := h8.symm
        rw [ec9, show m - (k : Int) - 1 = m - ((k + 1 : Nat) : Int) by omega]
        refine t_eq (st' := [.ref (A 11 ((uSh (vS U 6 (5 * y + f).toNat (U 6 (5 * y + f).toNat - m)) (5 * y + f) (5 * y + t) k 7 (6 * (5 * y + f) + uSh (vS U 6 (5 * y + f).toNat (U 6 (5 * y + f).toNat - m)) (5 * y + f) (5 * y + t) k 6 (5 * y + f).toNat + (k : Int)).toNat).toNat))]) rfl rfl ?_
        refine t_L (L' := [(q9, (74, 0), .inr (11, [.int (iI (if (((k + 1 : Nat) : Int) : Int) < m then 17 - m + (((k + 1 : Nat) : Int) : Int) else 0)), .int (iI (m - (((k + 1 : Nat) : Int) : Int))), .int (iI (if (k : Int) < m then 17 - m + (k : Int) else 0)), .ref qd])), (qd, (72, 0), .inr (10, [.ref da, .int (iI (17 - m)), .int (iI 0)])), (da, (73, 0), .inl (EV.2.1 2, 17, .inr (.inr (.inr (.inr (dqF A U (5 * y + f) (U 6 (5 * y + f).toNat) m.toNat))))))]) rfl ?_
        refine t_cast X rfl kX1_69_7 (fun M h _ => ⟨_, _, h.1 (11, ((uSh (vS U 6 (5 * y + f).toNat (U 6 (5 * y + f).toNat - m)) (5 * y + f) (5 * y + t) k 7 (6 * (5 * y + f) + uSh (vS U 6 (5 * y + f).toNat (U 6 (5 * y + f).toNat - m)) (5 * y + f) (5 * y + t) k 6 (5 * y + f).toNat + (k : Int)).toNat).toNat)) _ (sC_11 (by first | (show _ < U 41 0; omega) | (rw [e41]; omega)))⟩) ?_
        refine t_run X 7 (pc1 := 156) (ls1 := [_, _, _, _, _, _, _, _, _, _]) (st1 := [_, _]) rfl ?_
        refine t_eq (ls' := [some (.ref (A 10 0)), some (.int (iI y)), some (.int (iI f)), some (.int (iI t)), some (.int (iI m)), some (.ref (A 24 ((5 * y + f).toNat))), some (.ref (A 24 ((5 * y + t).toNat))), some (.ref qd), some (.ref q9), some (.ref (A 11 ((uSh (vS U 6 (5 * y + f).toNat (U 6 (5 * y + f).toNat - m)) (5 * y + f) (5 * y + t) k 7 (6 * (5 * y + f) + uSh (vS U 6 (5 * y + f).toNat (U 6 (5 * y + f).toNat - m)) (5 * y + f) (5 * y + t) k 6 (5 * y + f).toNat + (k : Int)).toNat).toNat)))]) (st' := [.int (iI ((5 * y) + t)), .ref (A 11 ((uSh (vS U 6 (5 * y + f).toNat (U 6 (5 * y + f).toNat - m)) (5 * y + f) (5 * y + t) k 7 (6 * (5 * y + f) + uSh (vS U 6 (5 * y + f).toNat (U 6 (5 * y + f).toNat - m)) (5 * y + f) (5 * y + t) k 6 (5 * y + f).toNat + (k : Int)).toNat).toNat))]) (by first | rfl | (simp only [iI_add, iI_sub, iI_mul, iI_neg]; done) | (simp only [iI_add, iI_sub, iI_mul, iI_neg] <;> rfl)) (by first | rfl | (simp only [iI_add, iI_sub, iI_mul, iI_neg]; done) | (simp only [iI_add, iI_sub, iI_mul, iI_neg] <;> rfl)) ?_
        refine t_pu3 X (x := ((5 * y) + t)) rfl fX1_185 (by rw [e41]; omega) (show ¬ (11 : Nat) = 9 by decide) (by intro x hx; have hx2 : x ∈ [_, _, _] := hx; simp only [List.mem_cons, List.not_mem_nil, or_false] at hx2; rcases hx2 with rfl | rfl | rfl <;> simp) ?_
        refine t_run X 2 (pc1 := 163) (ls1 := [_, _, _, _, _, _, _, _, _, _]) (st1 := [_, _]) rfl ?_
        refine t_callV X [] [0, 1, 2] rfl mX1_164 (tc_put z.2.1 EV (p := (5 * y + t)) (w := (uSh (vS U 6 (5 * y + f).toNat (U 6 (5 * y + f).toNat - m)) (5 * y + f) (5 * y + t) k 7 (6 * (5 * y + f) + uSh (vS U 6 (5 * y + f).toNat (U 6 (5 * y + f).toNat - m)) (5 * y + f) (5 * y + t) k 6 (5 * y + f).toNat + (k : Int)).toNat)) (by omega) (by show 0 ≤ (uSh (vS U 6 (5 * y + f).toNat (U 6 (5 * y + f).toNat - m)) (5 * y + f) (5 * y + t) k) 6 _ ∧ (uSh (vS U 6 (5 * y + f).toNat (U 6 (5 * y + f).toNat - m)) (5 * y + f) (5 * y + t) k) 6 _ < 6; rw [e6p]; omega) rfl) (fun M h _ => gLk_at (h.2.2 _ (Or.inl (by omega)))) rfl rfl (fun t h => by rcases h with h | ⟨h, -⟩; (rw [h]; exact Nat.ne_of_beq_eq_false rfl); show ¬ t.1 = 9; omega) (by intro x hx; have hx2 : x ∈ [_, _, _] := hx; simp only [List.mem_cons, List.not_mem_nil, or_false] at hx2; rcases hx2 with rfl | rfl | rfl <;> exact nLL (Nat.le_of_ble_eq_true rfl)) rfl rfl (Nat.le_of_ble_eq_true rfl) (gFit.of hR (by decide) (by omega) (by omega)) (fun _ h => h.elim) (fun v9 A9 U9 L9 h9 => ?_)
        obtain ⟨rfl, h7, h8, rfl⟩ := h9
        obtain rfl := h7.symm
        subst h8
        refine t_eq (st' := []) rfl rfl ?_
        refine t_L (L' := [(q9, (74, 0), .inr (11, [.int (iI (if (((k + 1 : Nat) : Int) : Int) < m then 17 - m + (((k + 1 : Nat) : Int) : Int) else 0)), .int (iI (m - (((k + 1 : Nat) : Int) : Int))), .int (iI (if (k : Int) < m then 17 - m + (k : Int) else 0)), .ref qd])), (qd, (72, 0), .inr (10, [.ref da, .int (iI (17 - m)), .int (iI 0)])), (da, (73, 0), .inl (EV.2.1 2, 17, .inr (.inr (.inr (.inr (dqF A U (5 * y + f) (U 6 (5 * y + f).toNat) m.toNat))))))]) rfl ?_
        refine t_run X 1 (pc1 := 127) (ls1 := [_, _, _, _, _, _, _, _, _, _]) (st1 := []) rfl ?_
        exact t_forget [true, true, true, true, true, true, true, true, true, false] rfl (ih (k + 1) (by omega) (kc + 0 + 0 + 1) (kn + 0 + 0 + 3) (by omega) (by omega) _)
  have k120 : ((0 ≤ y ∧ y ≤ 2) ∧ (0 ≤ f ∧ f ≤ 4) ∧ (0 ≤ t ∧ t ≤ 4) ∧ ¬ f = t ∧ (1 ≤ m ∧ m ≤ 6) ∧ m ≤ U 6 (5 * y + f).toNat ∧ U 6 (5 * y + t).toNat + m ≤ 6 ∧ 0 ≤ U 6 (5 * y + t).toNat ∧ U 6 (5 * y + f).toNat ≤ 6) → ∀ (qd da k : Nat), (k : Int) = m → gTd z (cX1_shunt, yX1_shunt.cls, 10, (some .int), tbX1_shunt, yX1_shunt.name) EV Q tSys M0 A (vS U 6 (5 * y + f).toNat (U 6 (5 * y + f).toNat - (k : Int))) [(qd, (72, 0), .inr (10, [.ref da, .int (iI (if (k : Int) = 0 then 0 else 17 - (k : Int))), .int (iI 0)])), (da, (73, 0), .inl (EV.2.1 2, 17, .inr (.inr (.inr (.inr (dqF A U (5 * y + f) (U 6 (5 * y + f).toNat) k))))))] 12 80 120 [some (.ref (A 10 0)), some (.int (iI y)), some (.int (iI f)), some (.int (iI t)), some (.int (iI m)), some (.ref (A 24 ((5 * y + f).toNat))), some (.ref (A 24 ((5 * y + t).toNat))), some (.ref qd), none, none] [] := by
    intro hB qd da k hk
    refine t_U (U' := (vS U 6 (5 * y + f).toNat (U 6 (5 * y + f).toNat - m))) (by rw [hk]) ?_
    refine t_L (L' := [(qd, (72, 0), .inr (10, [.ref da, .int (iI (17 - m)), .int (iI 0)])), (da, (73, 0), .inl (EV.2.1 2, 17, .inr (.inr (.inr (.inr (dqF A U (5 * y + f) (U 6 (5 * y + f).toNat) m.toNat))))))]) (by rw [if_neg (by omega), hk, show k = m.toNat by omega]) ?_
    refine t_run X 1 (pc1 := 122) (ls1 := [_, _, _, _, _, _, _, _, _, _]) (st1 := [_]) rfl ?_
    refine t_callV X [0, 1] [] rfl mX1_184 (TC.ofJ (jc_dq_iter z.2.1 EV (a := qd) (d := da) (t := (72, 0)) (74, 0) (w := (73, 0)) (by decide) (by decide) (by decide) (h := 17 - m) (by omega)) (fun _ _ _ => trivial) (fun t9 h => h ▸ tDead_loc (by decide))) (fun M _ h => ⟨_, _, h.at (i := 0) rfl⟩) rfl rfl (fun _ h => by rw [h]; exact Nat.ne_of_beq_eq_false rfl) (fun _ h => by cases h) rfl rfl (Nat.le_of_ble_eq_true rfl) (gFit.of hR (by decide) (Nat.le_of_ble_eq_true rfl) (Nat.le_of_ble_eq_true rfl)) (fun _ h => h.elim) (fun v9 A9 U9 L9 h9 => ?_)
    obtain ⟨⟨q9, rfl, rfl⟩, h7, h8⟩ := h9
    obtain rfl := h7.symm
    obtain rfl := h8.symm
    refine t_eq (st' := [.ref q9]) rfl rfl ?_
    refine t_L (L' := [(q9, (74, 0), .inr (11, [.int (iI (17 - m)), .int (iI (if 17 - m = 0 then 0 else 17 - (17 - m))), .int (iI (-1)), .ref qd])), (qd, (72, 0), .inr (10, [.ref da, .int (iI (17 - m)), .int (iI 0)])), (da, (73, 0), .inl (EV.2.1 2, 17, .inr (.inr (.inr (.inr (dqF A U (5 * y + f) (U 6 (5 * y + f).toNat) m.toNat))))))]) rfl ?_
    refine t_L (L' := [(q9, (74, 0), .inr (11, [.int (iI (if (((0 : Nat) : Int) : Int) < m then 17 - m + (((0 : Nat) : Int) : Int) else 0)), .int (iI (m - (((0 : Nat) : Int) : Int))), .int (iI (-1)), .ref qd])), (qd, (72, 0), .inr (10, [.ref da, .int (iI (17 - m)), .int (iI 0)])), (da, (73, 0), .inl (EV.2.1 2, 17, .inr (.inr (.inr (.inr (dqF A U (5 * y + f) (U 6 (5 * y + f).toNat) m.toNat))))))]) (by rw [if_neg (by omega), if_pos (show ((0 : Nat) : Int) < m by omega), show 17 - (17 - m) = m - ((0 : Nat) : Int) by omega, show 17 - m + ((0 : Nat) : Int) = 17 - m by omega]) ?_
    refine t_run X 1 (pc1 := 127) (ls1 := [_, _, _, _, _, _, _, _, _, _]) (st1 := []) rfl ?_
    exact loop2 hB qd da q9 m.toNat 0 (by omega) _ _ (by omega) (by omega) _
  have loop1 : ((0 ≤ y ∧ y ≤ 2) ∧ (0 ≤ f ∧ f ≤ 4) ∧ (0 ≤ t ∧ t ≤ 4) ∧ ¬ f = t ∧ (1 ≤ m ∧ m ≤ 6) ∧ m ≤ U 6 (5 * y + f).toNat ∧ U 6 (5 * y + t).toNat + m ≤ 6 ∧ 0 ≤ U 6 (5 * y + t).toNat ∧ U 6 (5 * y + f).toNat ≤ 6) → ∀ (qd da j k : Nat), (k : Int) + j = m → gTd z (cX1_shunt, yX1_shunt.cls, 10, (some .int), tbX1_shunt, yX1_shunt.name) EV Q tSys M0 A (vS U 6 (5 * y + f).toNat (U 6 (5 * y + f).toNat - (k : Int))) [(qd, (72, 0), .inr (10, [.ref da, .int (iI (if (k : Int) = 0 then 0 else 17 - (k : Int))), .int (iI 0)])), (da, (73, 0), .inl (EV.2.1 2, 17, .inr (.inr (.inr (.inr (dqF A U (5 * y + f) (U 6 (5 * y + f).toNat) k))))))] 12 80 94 [some (.ref (A 10 0)), some (.int (iI y)), some (.int (iI f)), some (.int (iI t)), some (.int (iI m)), some (.ref (A 24 ((5 * y + f).toNat))), some (.ref (A 24 ((5 * y + t).toNat))), some (.ref qd), none, none] [] := by
    intro hB qd da j
    induction j with
    | zero =>
      intro k hk
      have e6k : (vS U 6 (5 * y + f).toNat (U 6 (5 * y + f).toNat - (k : Int))) 6 (5 * y + f).toNat = U 6 (5 * y + f).toNat - (k : Int) := vS_s
      refine t_run X 1 (pc1 := 96) (ls1 := [_, _, _, _, _, _, _, _, _, _]) (st1 := [_]) rfl ?_
      refine t_callV X [0, 1] [] rfl mX1_177 (TC.ofJ (jc_dq_size z.2.1 EV (h := (if (k : Int) = 0 then 0 else 17 - (k : Int))) (by split <;> omega)) (fun _ _ _ => trivial) (fun _ h => h.elim)) (fun M _ h => ⟨_, _, h.at (i := 0) rfl⟩) rfl rfl (fun _ h => h.elim) (fun _ _ h => h) rfl rfl (Nat.le_of_ble_eq_true rfl) (gFit.of hR (by decide) (Nat.le_of_ble_eq_true rfl) (Nat.le_of_ble_eq_true rfl)) (fun _ h => h.elim) (fun v9 A9 U9 L9 h9 => ?_)
      obtain ⟨⟨rfl, rfl⟩, h7, h8⟩ := h9
      obtain rfl := h7.symm
      obtain rfl := h8.symm
      refine t_eq (st' := [.int (iI (k : Int))]) rfl (by have e9 : (if (if (k : Int) = 0 then 0 else 17 - (k : Int)) = 0 then 0 else 17 - (if (k : Int) = 0 then 0 else 17 - (k : Int))) = (k : Int) := (by by_cases hk0 : (k : Int) = 0; (rw [if_pos hk0, if_pos rfl, hk0]); rw [if_neg hk0, if_neg (by omega)]; omega); exact congrArg (fun q => [Value.int (iI q)]) e9) ?_
      refine t_L (L' := [(qd, (72, 0), .inr (10, [.ref da, .int (iI (if (k : Int) = 0 then 0 else 17 - (k : Int))), .int (iI 0)])), (da, (73, 0), .inl (EV.2.1 2, 17, .inr (.inr (.inr (.inr (dqF A U (5 * y + f) (U 6 (5 * y + f).toNat) k))))))]) rfl ?_
      refine t_run X 1 (pc1 := 101) (ls1 := [_, _, _, _, _, _, _, _, _, _]) (st1 := [_, _]) rfl ?_
      refine t_br X (pc1 := 120) (st1 := []) rfl (fun b9 => ?_) (fun b9 => ?_)
      · have c101 : m ≤ (k : Int) := cLe b9 (by omega) (by omega)
        exact k120 hB qd da k (by omega)
      · have c101 : (k : Int) < m := cNe b9 (by omega) (by omega)
        exact absurd c101 (by omega)
    | succ j ih =>
      intro k hk
      have e6k : (vS U 6 (5 * y + f).toNat (U 6 (5 * y + f).toNat - (k : Int))) 6 (5 * y + f).toNat = U 6 (5 * y + f).toNat - (k : Int) := vS_s
      have h7p := uI7 hI (a := (5 * y + f)) (k := U 6 (5 * y + f).toNat - (k : Int) - 1) (by omega) (by omega) (by omega) (by omega)
      refine t_run X 1 (pc1 := 96) (ls1 := [_, _, _, _, _, _, _, _, _, _]) (st1 := [_]) rfl ?_
      refine t_callV X [0, 1] [] rfl mX1_177 (TC.ofJ (jc_dq_size z.2.1 EV (h := (if (k : Int) = 0 then 0 else 17 - (k : Int))) (by split <;> omega)) (fun _ _ _ => trivial) (fun _ h => h.elim)) (fun M _ h => ⟨_, _, h.at (i := 0) rfl⟩) rfl rfl (fun _ h => h.elim) (fun _ _ h => h) rfl rfl (Nat.le_of_ble_eq_true rfl) (gFit.of hR (by decide) (Nat.le_of_ble_eq_true rfl) (Nat.le_of_ble_eq_true rfl)) (fun _ h => h.elim) (fun v9 A9 U9 L9 h9 => ?_)
      obtain ⟨⟨rfl, rfl⟩, h7, h8⟩ := h9
      obtain rfl := h7.symm
      obtain rfl := h8.symm
      refine t_eq (st' := [.int (iI (k : Int))]) rfl (by have e9 : (if (if (k : Int) = 0 then 0 else 17 - (k : Int)) = 0 then 0 else 17 - (if (k : Int) = 0 then 0 else 17 - (k : Int))) = (k : Int) := (by by_cases hk0 : (k : Int) = 0; (rw [if_pos hk0, if_pos rfl, hk0]); rw [if_neg hk0, if_neg (by omega)]; omega); exact congrArg (fun q => [Value.int (iI q)]) e9) ?_
      refine t_L (L' := [(qd, (72, 0), .inr (10, [.ref da, .int (iI (if (k : Int) = 0 then 0 else 17 - (k : Int))), .int (iI 0)])), (da, (73, 0), .inl (EV.2.1 2, 17, .inr (.inr (.inr (.inr (dqF A U (5 * y + f) (U 6 (5 * y + f).toNat) k))))))]) rfl ?_
      refine t_run X 1 (pc1 := 101) (ls1 := [_, _, _, _, _, _, _, _, _, _]) (st1 := [_, _]) rfl ?_
      refine t_br X (pc1 := 120) (st1 := []) rfl (fun b9 => ?_) (fun b9 => ?_)
      · have c101 : m ≤ (k : Int) := cLe b9 (by omega) (by omega)
        exact absurd c101 (by omega)
      · have c101 : (k : Int) < m := cNe b9 (by omega) (by omega)
        refine t_run X 2 (pc1 := 108) (ls1 := [_, _, _, _, _, _, _, _, _, _]) (st1 := [_, _]) rfl ?_
        refine t_callV X [] [0, 1] rfl mX1_178 (tc_pull z.2.1 EV (p := (5 * y + f)) (by omega) (by rw [e6k]; omega)) (fun M h _ => gLk_at (h.2.2 _ (Or.inl (by omega)))) rfl rfl (fun t h => by rcases h with h | ⟨h, -⟩; (rw [h]; exact Nat.ne_of_beq_eq_false rfl); show ¬ t.1 = 9; omega) (by intro x hx; have hx2 : x ∈ [_, _] := hx; simp only [List.mem_cons, List.not_mem_nil, or_false] at hx2; rcases hx2 with rfl | rfl <;> exact nLL (Nat.le_of_ble_eq_true rfl)) rfl rfl (Nat.le_of_ble_eq_true rfl) (gFit.of hR (by decide) (Nat.le_of_ble_eq_true rfl) (Nat.le_of_ble_eq_true rfl)) (fun _ h => h.elim) (fun v9 A9 U9 L9 h9 => ?_)
        obtain ⟨rfl, h7, h8, rfl⟩ := h9
        obtain rfl := h7.symm
        subst h8
        refine t_eq (st' := [.ref (A 11 ((U 7 (6 * (5 * y + f) + (U 6 (5 * y + f).toNat - (k : Int) - 1)).toNat).toNat)), .ref qd]) rfl (by rw [e6k]; rfl) ?_
        refine t_L (L' := [(qd, (72, 0), .inr (10, [.ref da, .int (iI (if (k : Int) = 0 then 0 else 17 - (k : Int))), .int (iI 0)])), (da, (73, 0), .inl (EV.2.1 2, 17, .inr (.inr (.inr (.inr (dqF A U (5 * y + f) (U 6 (5 * y + f).toNat) k))))))]) rfl ?_
        refine t_U (U' := vS U 6 (5 * y + f).toNat (U 6 (5 * y + f).toNat - ((k + 1 : Nat) : Int))) (by rw [e6k, vS_vS, show U 6 (5 * y + f).toNat - (k : Int) - 1 = U 6 (5 * y + f).toNat - ((k + 1 : Nat) : Int) by omega]) ?_
        refine t_cast X rfl kX1_69_7 (fun M h _ => ⟨_, _, h.1 (11, ((U 7 (6 * (5 * y + f) + (U 6 (5 * y + f).toNat - (k : Int) - 1)).toNat).toNat)) _ (sC_11 (by first | (show _ < U 41 0; omega) | (rw [e41]; omega)))⟩) ?_
        refine t_callV X [0, 1] [] rfl mX1_181 (TC.ofJ (jc_dq_add z.2.1 EV (x := A 11 (U 7 (6 * (5 * y + f) + (U 6 (5 * y + f).toNat - (k : Int) - 1)).toNat).toNat) (t := (72, 0)) (w := (73, 0)) (by decide) (by decide) (by decide) (h := (if (k : Int) = 0 then 0 else 17 - (k : Int))) (by split <;> omega)) (fun M hD _ => gOw_11 hD (by show _ < U 41 0; omega)) (fun t9 h => by rcases h with h | h <;> rw [h] <;> exact tDead_loc (by decide))) (fun M _ h => ⟨_, _, h.at (i := 0) rfl⟩) rfl rfl (fun t h => by rcases h with h | h <;> rw [h] <;> exact Nat.ne_of_beq_eq_false rfl) (fun _ h => by cases h) rfl rfl (Nat.le_of_ble_eq_true rfl) (gFit.of hR (by decide) (Nat.le_of_ble_eq_true rfl) (Nat.le_of_ble_eq_true rfl)) (fun _ h => h.elim) (fun v9 A9 U9 L9 h9 => ?_)
        obtain ⟨⟨rfl, rfl⟩, h7, h8⟩ := h9
        obtain rfl := h7.symm
        obtain rfl := h8.symm
        have eq9 : (if (if (k : Int) = 0 then 0 else 17 - (k : Int)) = 0 then (17 : Int) - 1 else (if (k : Int) = 0 then 0 else 17 - (k : Int)) - 1) = (if (((k + 1 : Nat) : Int) : Int) = 0 then 0 else 17 - (((k + 1 : Nat) : Int) : Int)) := by by_cases hk0 : (k : Int) = 0; (rw [if_pos hk0, if_pos rfl, if_neg (by omega)]; omega); rw [if_neg hk0, if_neg (by omega), if_neg (by omega)]; omega
        rw [eq9, show ((if (((k + 1 : Nat) : Int) : Int) = 0 then 0 else 17 - (((k + 1 : Nat) : Int) : Int))).toNat = 16 - k by rw [if_neg (by omega)]; omega, dqF_s (by omega)]
        refine t_eq (st' := []) rfl rfl ?_
        refine t_L (L' := [(qd, (72, 0), .inr (10, [.ref da, .int (iI (if (((k + 1 : Nat) : Int) : Int) = 0 then 0 else 17 - (((k + 1 : Nat) : Int) : Int))), .int (iI 0)])), (da, (73, 0), .inl (EV.2.1 2, 17, .inr (.inr (.inr (.inr (dqF A U (5 * y + f) (U 6 (5 * y + f).toNat) (k + 1)))))))]) rfl ?_
        refine t_run X 1 (pc1 := 94) (ls1 := [_, _, _, _, _, _, _, _, _, _]) (st1 := []) rfl ?_
        exact t_forget [true, true, true, true, true, true, true, true, false, false] rfl (ih (k + 1) (by omega))
  refine t_eq (ls' := [some (.ref (A 10 0)), some (.int (iI y)), some (.int (iI f)), some (.int (iI t)), some (.int (iI m)), none, none, none, none, none]) (st' := []) rfl rfl ?_
  refine t_run X 3 (pc1 := 3) (ls1 := [_, _, _, _, _, _, _, _, _, _]) (st1 := [_, _, _]) rfl ?_
  refine t_callS X [] [] rfl mX1_139 (tc_limited z.2.1 EV (v := y) (lo := 0) (hi := 2) (by omega) (by omega) (by omega)) rfl rfl (fun _ h => h.elim) (fun _ h => by cases h) rfl rfl (Nat.le_of_ble_eq_true rfl) (gFit.of hR (by decide) (Nat.le_of_ble_eq_true rfl) (Nat.le_of_ble_eq_true rfl)) (fun E h => t_out X hQ hE (by omega) (by omega) (Or.inl ⟨h.1, by have h2 := h.2; omega⟩)) (fun v9 A9 U9 L9 h9 => ?_)
  obtain ⟨⟨rfl, h7, h8, rfl⟩, l3⟩ := h9
  obtain rfl := h7.symm
  obtain rfl := h8.symm
  refine t_eq (st' := []) rfl rfl ?_
  refine t_run X 3 (pc1 := 9) (ls1 := [_, _, _, _, _, _, _, _, _, _]) (st1 := [_, _, _]) rfl ?_
  refine t_callS X [] [] rfl mX1_143 (tc_unlike z.2.1 EV (x := f) (y := t) (m := 5) (by omega) (by omega) (by omega)) rfl rfl (fun _ h => h.elim) (fun _ h => by cases h) rfl rfl (Nat.le_of_ble_eq_true rfl) (gFit.of hR (by decide) (Nat.le_of_ble_eq_true rfl) (Nat.le_of_ble_eq_true rfl)) (fun E h => t_out X hQ hE (by omega) (by omega) (Or.inl ⟨h.1, by have h2 := h.2; omega⟩)) (fun v9 A9 U9 L9 h9 => ?_)
  obtain ⟨⟨rfl, h7, h8, rfl⟩, l9⟩ := h9
  obtain rfl := h7.symm
  obtain rfl := h8.symm
  refine t_eq (st' := []) rfl rfl ?_
  refine t_run X 3 (pc1 := 17) (ls1 := [_, _, _, _, _, _, _, _, _, _]) (st1 := [_, _, _]) rfl ?_
  refine t_callS X [] [] rfl mX1_139 (tc_limited z.2.1 EV (v := m) (lo := 1) (hi := 6) (by omega) (by omega) (by omega)) rfl rfl (fun _ h => h.elim) (fun _ h => by cases h) rfl rfl (Nat.le_of_ble_eq_true rfl) (gFit.of hR (by decide) (Nat.le_of_ble_eq_true rfl) (Nat.le_of_ble_eq_true rfl)) (fun E h => t_out X hQ hE (by omega) (by omega) (Or.inl ⟨h.1, by have h2 := h.2; omega⟩)) (fun v9 A9 U9 L9 h9 => ?_)
  obtain ⟨⟨rfl, h7, h8, rfl⟩, l17⟩ := h9
  obtain rfl := h7.symm
  obtain rfl := h8.symm
  refine t_eq (st' := []) rfl rfl ?_
  refine t_run X 1 (pc1 := 21) (ls1 := [_, _, _, _, _, _, _, _, _, _]) (st1 := [_]) rfl ?_
  refine t_get X (10, 0) (v := .ref (A 30 0)) rfl fX1_10 sC_10 rfl ?_
  refine t_run X 5 (pc1 := 29) (ls1 := [_, _, _, _, _, _, _, _, _, _]) (st1 := [_, _]) rfl ?_
  refine t_eq (ls' := [some (.ref (A 10 0)), some (.int (iI y)), some (.int (iI f)), some (.int (iI t)), some (.int (iI m)), none, none, none, none, none]) (st' := [.int (iI ((5 * y) + f)), .ref (A 30 0)]) (by first | rfl | (simp only [iI_add, iI_sub, iI_mul, iI_neg]; done) | (simp only [iI_add, iI_sub, iI_mul, iI_neg] <;> rfl)) (by first | rfl | (simp only [iI_add, iI_sub, iI_mul, iI_neg]; done) | (simp only [iI_add, iI_sub, iI_mul, iI_neg] <;> rfl)) ?_
  refine t_callV X [] [] rfl mX1_74 (tc_algetN z.2.1 EV (i := 0) (n := 15) (by unfold alL; omega) rfl (by omega) (x := ((5 * y) + f)) (by omega) rfl) (fun M h _ => gAL_at (h.2.1 0 (by unfold alL; omega))) rfl rfl (fun _ h => h.elim) (fun _ _ h => h) rfl rfl (Nat.le_of_ble_eq_true rfl) (gFit.of hR (by decide) (Nat.le_of_ble_eq_true rfl) (Nat.le_of_ble_eq_true rfl)) (fun _ h => h.elim) (fun v9 A9 U9 L9 h9 => ?_)
  obtain ⟨rfl, h7, h8, rfl⟩ := h9
  obtain rfl := h7.symm
  obtain rfl := h8.symm
  refine t_eq (st' := [.ref (A 24 (((5 * y) + f).toNat))]) rfl rfl ?_
  refine t_cast X rfl kX1_47_2 (fun M h _ => gLk_at (h.2.2 (((5 * y) + f).toNat) (by unfold llL; first | omega | (show _ ∨ _ < U 45 0; omega)))) ?_
  refine t_run X 2 (pc1 := 38) (ls1 := [_, _, _, _, _, _, _, _, _, _]) (st1 := [_]) rfl ?_
  refine t_get X (10, 0) (v := .ref (A 30 0)) rfl fX1_10 sC_10 rfl ?_
  refine t_run X 5 (pc1 := 46) (ls1 := [_, _, _, _, _, _, _, _, _, _]) (st1 := [_, _]) rfl ?_
  refine t_eq (ls' := [some (.ref (A 10 0)), some (.int (iI y)), some (.int (iI f)), some (.int (iI t)), some (.int (iI m)), some (.ref (A 24 (((5 * y) + f).toNat))), none, none, none, none]) (st' := [.int (iI ((5 * y) + t)), .ref (A 30 0)]) (by first | rfl | (simp only [iI_add, iI_sub, iI_mul, iI_neg]; done) | (simp only [iI_add, iI_sub, iI_mul, iI_neg] <;> rfl)) (by first | rfl | (simp only [iI_add, iI_sub, iI_mul, iI_neg]; done) | (simp only [iI_add, iI_sub, iI_mul, iI_neg] <;> rfl)) ?_
  refine t_callV X [] [] rfl mX1_74 (tc_algetN z.2.1 EV (i := 0) (n := 15) (by unfold alL; omega) rfl (by omega) (x := ((5 * y) + t)) (by omega) rfl) (fun M h _ => gAL_at (h.2.1 0 (by unfold alL; omega))) rfl rfl (fun _ h => h.elim) (fun _ _ h => h) rfl rfl (Nat.le_of_ble_eq_true rfl) (gFit.of hR (by decide) (Nat.le_of_ble_eq_true rfl) (Nat.le_of_ble_eq_true rfl)) (fun _ h => h.elim) (fun v9 A9 U9 L9 h9 => ?_)
  obtain ⟨rfl, h7, h8, rfl⟩ := h9
  obtain rfl := h7.symm
  obtain rfl := h8.symm
  refine t_eq (st' := [.ref (A 24 (((5 * y) + t).toNat))]) rfl rfl ?_
  refine t_cast X rfl kX1_47_2 (fun M h _ => gLk_at (h.2.2 (((5 * y) + t).toNat) (by unfold llL; first | omega | (show _ ∨ _ < U 45 0; omega)))) ?_
  refine t_run X 1 (pc1 := 54) (ls1 := [_, _, _, _, _, _, _, _, _, _]) (st1 := []) rfl ?_
  have b6f := uI6 hI (j := (5 * y + f)) (by omega) (by omega)
  have b6t := uI6 hI (j := (5 * y + t)) (by omega) (by omega)
  refine t_run X 1 (pc1 := 56) (ls1 := [_, _, _, _, _, _, _, _, _, _]) (st1 := [_]) rfl ?_
  refine t_callV X [] [] rfl mX1_78 (tc_llsizeN z.2.1 EV (i := ((5 * y) + f).toNat) (by unfold llL; omega) (n := U 6 ((5 * y) + f).toNat) (llN_t (by omega)) (by omega)) (fun M h _ => gLk_at (h.2.2 (((5 * y) + f).toNat) (by unfold llL; first | omega | (show _ ∨ _ < U 45 0; omega)))) rfl rfl (fun _ h => h.elim) (fun _ _ h => h) rfl rfl (Nat.le_of_ble_eq_true rfl) (gFit.of hR (by decide) (Nat.le_of_ble_eq_true rfl) (Nat.le_of_ble_eq_true rfl)) (fun _ h => h.elim) (fun v9 A9 U9 L9 h9 => ?_)
  obtain ⟨rfl, h7, h8, rfl⟩ := h9
  obtain rfl := h7.symm
  obtain rfl := h8.symm
  refine t_eq (st' := [.int (iI (U 6 ((5 * y) + f).toNat))]) rfl rfl ?_
  refine t_run X 1 (pc1 := 61) (ls1 := [_, _, _, _, _, _, _, _, _, _]) (st1 := [_, _]) rfl ?_
  refine t_br X (pc1 := 81) (st1 := []) rfl (fun b9 => ?_) (fun b9 => ?_)
  · have c61 : (U 6 ((5 * y) + f).toNat) < m := cLt b9 (by omega) (by omega)
    refine t_run X 1 (pc1 := 82) (ls1 := [_, _, _, _, _, _, _, _, _, _]) (st1 := [_]) rfl ?_
    refine t_eq (st' := [.int (iI (bI (False)))]) rfl rfl ?_
    refine t_callS X [] [] rfl mX1_154 (tc_allowed z.2.1 EV (False)) rfl rfl (fun _ h => h.elim) (fun _ _ h => h) rfl rfl (Nat.le_of_ble_eq_true rfl) (gFit.of hR (by decide) (Nat.le_of_ble_eq_true rfl) (Nat.le_of_ble_eq_true rfl)) (fun E h => t_out X hQ hE (by omega) (by omega) (Or.inr ⟨h.1, by omega, by omega⟩)) (fun v9 A9 U9 L9 h9 => ?_)
    exact h9.2.elim
  · have c61 : m ≤ (U 6 ((5 * y) + f).toNat) := cNl b9 (by omega) (by omega)
    refine t_run X 1 (pc1 := 66) (ls1 := [_, _, _, _, _, _, _, _, _, _]) (st1 := [_]) rfl ?_
    refine t_callV X [] [] rfl mX1_78 (tc_llsizeN z.2.1 EV (i := ((5 * y) + t).toNat) (by unfold llL; omega) (n := U 6 ((5 * y) + t).toNat) (llN_t (by omega)) (by omega)) (fun M h _ => gLk_at (h.2.2 (((5 * y) + t).toNat) (by unfold llL; first | omega | (show _ ∨ _ < U 45 0; omega)))) rfl rfl (fun _ h => h.elim) (fun _ _ h => h) rfl rfl (Nat.le_of_ble_eq_true rfl) (gFit.of hR (by decide) (Nat.le_of_ble_eq_true rfl) (Nat.le_of_ble_eq_true rfl)) (fun _ h => h.elim) (fun v9 A9 U9 L9 h9 => ?_)
    obtain ⟨rfl, h7, h8, rfl⟩ := h9
    obtain rfl := h7.symm
    obtain rfl := h8.symm
    refine t_eq (st' := [.int (iI (U 6 ((5 * y) + t).toNat))]) rfl rfl ?_
    refine t_run X 3 (pc1 := 74) (ls1 := [_, _, _, _, _, _, _, _, _, _]) (st1 := [_, _]) rfl ?_
    refine t_eq (ls' := [some (.ref (A 10 0)), some (.int (iI y)), some (.int (iI f)), some (.int (iI t)), some (.int (iI m)), some (.ref (A 24 (((5 * y) + f).toNat))), some (.ref (A 24 (((5 * y) + t).toNat))), none, none, none]) (st' := [.int (iI 6), .int (iI ((U 6 ((5 * y) + t).toNat) + m))]) (by first | rfl | (simp only [iI_add, iI_sub, iI_mul, iI_neg]; done) | (simp only [iI_add, iI_sub, iI_mul, iI_neg] <;> rfl)) (by first | rfl | (simp only [iI_add, iI_sub, iI_mul, iI_neg]; done) | (simp only [iI_add, iI_sub, iI_mul, iI_neg] <;> rfl)) ?_
    refine t_br X (pc1 := 81) (st1 := []) rfl (fun b9 => ?_) (fun b9 => ?_)
    · have c74 : 6 < ((U 6 ((5 * y) + t).toNat) + m) := cLt b9 (by omega) (by omega)
      refine t_run X 1 (pc1 := 82) (ls1 := [_, _, _, _, _, _, _, _, _, _]) (st1 := [_]) rfl ?_
      refine t_eq (st' := [.int (iI (bI (False)))]) rfl rfl ?_
      refine t_callS X [] [] rfl mX1_154 (tc_allowed z.2.1 EV (False)) rfl rfl (fun _ h => h.elim) (fun _ _ h => h) rfl rfl (Nat.le_of_ble_eq_true rfl) (gFit.of hR (by decide) (Nat.le_of_ble_eq_true rfl) (Nat.le_of_ble_eq_true rfl)) (fun E h => t_out X hQ hE (by omega) (by omega) (Or.inr ⟨h.1, by omega, by omega⟩)) (fun v9 A9 U9 L9 h9 => ?_)
      exact h9.2.elim
    · have c74 : ((U 6 ((5 * y) + t).toNat) + m) ≤ 6 := cNl b9 (by omega) (by omega)
      refine t_run X 2 (pc1 := 82) (ls1 := [_, _, _, _, _, _, _, _, _, _]) (st1 := [_]) rfl ?_
      refine t_eq (st' := [.int (iI (bI (True)))]) rfl rfl ?_
      refine t_callS X [] [] rfl mX1_154 (tc_allowed z.2.1 EV (True)) rfl rfl (fun _ h => h.elim) (fun _ _ h => h) rfl rfl (Nat.le_of_ble_eq_true rfl) (gFit.of hR (by decide) (Nat.le_of_ble_eq_true rfl) (Nat.le_of_ble_eq_true rfl)) (fun E h => (h.2 trivial).elim) (fun v9 A9 U9 L9 h9 => ?_)
      obtain ⟨⟨rfl, h7, h8, rfl⟩, -⟩ := h9
      obtain rfl := h7.symm
      obtain rfl := h8.symm
      refine t_eq (st' := []) rfl rfl ?_
      refine t_new X (72, 0) rfl nX1_174 (rc hR (Nat.le_of_ble_eq_true rfl)) (rs hR (Nat.le_of_ble_eq_true rfl)) (fun q1 => ?_)
      refine t_L (L' := [(q1, (72, 0), .inr (10, [.null, .int (iI 0), .int (iI 0)]))]) rfl ?_
      refine t_run X 1 (pc1 := 89) (ls1 := [_, _, _, _, _, _, _, _, _, _]) (st1 := [_, _]) rfl ?_
      refine t_callI X [0] [] rfl mX1_176 (TC.ofJ (jc_dq_init z.2.1 EV (a := q1) (t := (72, 0)) (w := (73, 0)) (by decide)) (fun _ _ _ => trivial) (fun t9 h => h ▸ tDead_loc (by decide))) rfl rfl (fun _ h => by rw [h]; exact Nat.ne_of_beq_eq_false rfl) (fun _ h => by cases h) rfl rfl (Nat.le_of_ble_eq_true rfl) (gFit.of hR (by decide) (Nat.le_of_ble_eq_true rfl) (Nat.le_of_ble_eq_true rfl)) (fun _ h => h.elim) (fun v9 A9 U9 L9 h9 => ?_)
      obtain ⟨⟨da, rfl, rfl⟩, h7, h8⟩ := h9
      obtain rfl := h7.symm
      obtain rfl := h8.symm
      refine t_eq (st' := [.ref q1]) rfl rfl ?_
      refine t_L (L' := [(q1, (72, 0), .inr (10, [.ref da, .int (iI 0), .int (iI 0)])), (da, (73, 0), .inl (EV.2.1 2, 17, .inr (.inr (.inr (.inr (fun _ => none))))))]) rfl ?_
      refine t_run X 1 (pc1 := 94) (ls1 := [_, _, _, _, _, _, _, _, _, _]) (st1 := []) rfl ?_
      refine t_U (U' := vS U 6 (5 * y + f).toNat (U 6 (5 * y + f).toNat - ((0 : Nat) : Int))) (vS_id (by omega)) ?_
      refine t_L (L' := [(q1, (72, 0), .inr (10, [.ref da, .int (iI (if ((0 : Nat) : Int) = 0 then 0 else 17 - ((0 : Nat) : Int))), .int (iI 0)])), (da, (73, 0), .inl (EV.2.1 2, 17, .inr (.inr (.inr (.inr (dqF A U (5 * y + f) (U 6 (5 * y + f).toNat) (0 : Nat)))))))]) (by rw [if_pos (show ((0 : Nat) : Int) = 0 from rfl), dqF_0]) ?_
      exact t_wide (by omega) (by omega) (loop1 (by omega) _ da m.toNat 0 (by omega))
