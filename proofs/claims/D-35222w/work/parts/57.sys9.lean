/-! THE SYSTEM's methods walked: the way of a call -/
def uWay (U : gV) (f t : Int) : Int × Int × Int := if f = t then (0, 0, 0) else if ¬ uFB U f t < 0 then (1, uFB U f t, 0) else if uFB U f ((3 - f) - t) < 0 ∨ uFB U ((3 - f) - t) t < 0 then (-1, 0, 0) else (2, uFB U f ((3 - f) - t), uFB U ((3 - f) - t) t)
theorem uFB_r (U : gV) {a b : Int} (h : (0 ≤ a ∧ a ≤ 2) ∧ (0 ≤ b ∧ b ≤ 2) ∧ ¬ a = b) : uFB U a b = -1 ∨ uFB U a b = 2 * (a + b - 1) ∨ uFB U a b = 2 * (a + b - 1) + 1 := by unfold uFB; (repeat' split) <;> omega
/-- what is known of the trunks' list -/
def uOv (EV : gEV) (A : gAd) (i a : Nat) (w : Int × Int × Int) (L : gLL) : Prop := ((∃ c1, L = [(a, (30, i), c1)]) ∨ ∃ d c1 c2, L = [(a, (30, i), c1), (d, (1000, i), c2)]) ∧ ∀ M, gL M L → gAL EV M i a w.1.toNat (fun j => A 14 (if j = 0 then w.2.1 else w.2.2).toNat)
theorem uOv0 {EV : gEV} {A : gAd} {i a : Nat} {x y : Int} : uOv EV A i a (0, x, y) [(a, (30, i), .inr (1, [.int (iI 0), .ref (EV.2.2.2 0), .int (iI 0)]))] :=
  ⟨Or.inl ⟨_, rfl⟩, fun M h => ⟨0, 0, 0, h.at (i := 0) rfl, fun h0 => absurd (show 0 < 0 from h0) (Nat.lt_irrefl 0)⟩⟩
theorem uOv1 {EV : gEV} {A : gAd} {i a d : Nat} {x y : Int} {X : Nat} (hX : X = A 14 x.toNat) : uOv EV A i a (1, x, y) [(a, (30, i), .inr (1, [.int (iI (0 + 1)), .ref d, .int (iI 1)])), (d, (1000, i), .inl (EV.2.1 2, 10, .inr (.inr (.inr (.inr (va_up (fun _ => none) 0 (some X)))))))] := by
  subst hX
  refine ⟨Or.inr ⟨d, _, _, rfl⟩, fun M h => ⟨d, 10, 0, h.at (i := 0) rfl, fun _ => ⟨show (1 : Nat) ≤ 10 by decide, by decide, (h.at (i := 1) rfl).trans ?_⟩⟩⟩
  show some ((1000, i), Sum.inl (EV.2.1 2, 10, refs (va_up (fun _ => none) 0 (some (A 14 x.toNat))))) = some ((1000, i), Sum.inl (EV.2.1 2, 10, refs (fun j => if j < 1 then some (A 14 (if j = 0 then x else y).toNat) else none)))
  have : va_up (fun _ => none) 0 (some (A 14 x.toNat)) = fun j => if j < 1 then some (A 14 (if j = 0 then x else y).toNat) else none := by
    funext j
    unfold va_up
    by_cases hj : j = 0
    · subst hj; simp
    · simp [hj]
  rw [this]
theorem uOv2 {EV : gEV} {A : gAd} {i a d : Nat} {x y : Int} {X Y : Nat} (hX : X = A 14 x.toNat) (hY : Y = A 14 y.toNat) : uOv EV A i a (2, x, y) [(a, (30, i), .inr (1, [.int (iI (0 + 1 + 1)), .ref d, .int (iI (1 + 1))])), (d, (1000, i), .inl (EV.2.1 2, 10, .inr (.inr (.inr (.inr (va_up (va_up (fun _ => none) 0 (some X)) (1 : Int).toNat (some Y)))))))] := by
  subst hX; subst hY
  refine ⟨Or.inr ⟨d, _, _, rfl⟩, fun M h => ⟨d, 10, 0, h.at (i := 0) rfl, fun _ => ⟨show (2 : Nat) ≤ 10 by decide, by decide, (h.at (i := 1) rfl).trans ?_⟩⟩⟩
  show some ((1000, i), Sum.inl (EV.2.1 2, 10, refs (va_up (va_up (fun _ => none) 0 (some (A 14 x.toNat))) 1 (some (A 14 y.toNat))))) = some ((1000, i), Sum.inl (EV.2.1 2, 10, refs (fun j => if j < 2 then some (A 14 (if j = 0 then x else y).toNat) else none)))
  have : va_up (va_up (fun _ => none) 0 (some (A 14 x.toNat))) 1 (some (A 14 y.toNat)) = fun j => if j < 2 then some (A 14 (if j = 0 then x else y).toNat) else none := by
    funext j
    unfold va_up
    by_cases hj : j = 0
    · subst hj; simp
    · by_cases hj1 : j = 1
      · subst hj1; simp
      · simp [hj, hj1, show ¬ j < 2 by omega]
  rw [this]
def uCo (W : gV) (c : Int) : Nat → gV
  | 0 => W
  | j + 1 => vS (uCo W c j) 9 (W 32 (2 * c + (j : Int)).toNat).toNat c
theorem uCo_k {W : gV} {c : Int} {k i : Nat} (h : k ≠ 9) (n : Nat) : uCo W c n k i = W k i := by
  induction n with
  | zero => rfl
  | succ n ih => rw [uCo, vS_k h, ih]
set_option maxHeartbeats 1000000 in
theorem tc_foundWay (l : Launch) (EV : gEV) {A : gAd} {U : gV} {f t : Int} {a : Nat} (hf : 0 ≤ f ∧ f ≤ 2) (ht : 0 ≤ t ∧ t ≤ 2) (hI : uI U) : TC l yX1_found cX1_found 8 (some (.object "java/util/ArrayList")) 10 5 2006 EV (fun t => t = (75, 0) ∨ t = (30, (100 + (U 43 0).toNat)) ∨ t = (1000, (100 + (U 43 0).toNat))) [.ref (A 10 0), .int (iI f), .int (iI t), .ref a] A U [(a, (30, (100 + (U 43 0).toNat)), .inr (1, [.int (iI 0), .ref (EV.2.2.2 0), .int (iI 0)]))] (fun w A9 U9 L9 => w = some (if (uWay U f t).1 < 0 then .null else .ref a) ∧ A9 = A ∧ U9 = U ∧ (0 ≤ (uWay U f t).1 → uOv EV A (100 + (U 43 0).toNat) a (uWay U f t) L9)) (rNo) := by
  refine t_body tbX1_found tkX1_found (by decide) (by intro v hv; simp only [List.mem_cons, List.not_mem_nil, or_false] at hv; rcases hv with rfl | rfl | rfl | rfl <;> rfl) (Nat.le_of_ble_eq_true rfl) (fun M0 z Q X hl hR hQ hE => ?_)
  subst hl
  have hu := uIs hI
  unfold uS at hu
  have hdd : ∀ t9 : gTag, tO2 (30, (100 + (U 43 0).toNat)) (1000, (100 + (U 43 0).toNat)) t9 → tDead EV A U t9 := fun t9 h => by rcases h with h | h <;> subst h; (exact tDead_al (by unfold alL; omega)); exact tDead_ar (p := 0) (by unfold alL; omega)
  refine t_eq (ls' := [some (.ref (A 10 0)), some (.int (iI f)), some (.int (iI t)), some (.ref a), none, none, none, none]) (st' := []) rfl rfl ?_
  refine t_run X 2 (pc1 := 2) (ls1 := [_, _, _, _, _, _, _, _]) (st1 := [_, _]) rfl ?_
  refine t_br X (pc1 := 7) (st1 := []) rfl (fun b9 => ?_) (fun b9 => ?_)
  · have c2 : ¬ f = t := cNq b9 (by omega) (by omega)
    refine t_run X 3 (pc1 := 10) (ls1 := [_, _, _, _, _, _, _, _]) (st1 := [_, _, _]) rfl ?_
    refine t_callV X [] [0] rfl mX1_104 (tc_freeBetween z.2.1 EV (a := f) (b := t) (by omega) (by omega) (by omega) hI) (fun M h _ => ⟨_, _, h.1 (10, 0) _ sC_10⟩) rfl rfl (fun _ h => Or.inl h) (by intro x hx; obtain rfl := List.mem_singleton.mp (show x ∈ [_] from hx); simp [tO]) rfl rfl (Nat.le_of_ble_eq_true rfl) (gFit.of hR (by decide) (Nat.le_of_ble_eq_true rfl) (Nat.le_of_ble_eq_true rfl)) (fun _ h => h.elim) (fun v9 A9 U9 L9 h9 => ?_)
    obtain ⟨rfl, h7, h8⟩ := h9
    obtain rfl := h7.symm
    obtain rfl := h8.symm
    refine t_drop ?_
    have bfb10 := uFB_r U (a := f) (b := t) (by omega)
    refine t_eq (st' := [rfA A 14 (uFB U f t)]) rfl rfl ?_
    refine t_L (L' := [(a, (30, (100 + (U 43 0).toNat)), .inr (1, [.int (iI 0), .ref (EV.2.2.2 0), .int (iI 0)]))]) rfl ?_
    by_cases n10 : (uFB U f t) < 0
    · refine t_eq (st' := [.null]) rfl (by rw [rfA_0 n10]) ?_
      refine t_run X 12 (pc1 := 31) (ls1 := [_, _, _, _, _, _, _, _]) (st1 := [_, _, _]) rfl ?_
      refine t_eq (ls' := [some (.ref (A 10 0)), some (.int (iI f)), some (.int (iI t)), some (.ref a), some (.null), some (.int (iI ((3 - f) - t))), none, none]) (st' := [.int (iI ((3 - f) - t)), .int (iI f), .ref (A 10 0)]) (by first | rfl | (simp only [iI_add, iI_sub, iI_mul, iI_neg]; done) | (simp only [iI_add, iI_sub, iI_mul, iI_neg] <;> rfl)) (by first | rfl | (simp only [iI_add, iI_sub, iI_mul, iI_neg]; done) | (simp only [iI_add, iI_sub, iI_mul, iI_neg] <;> rfl)) ?_
      refine t_callV X [] [0] rfl mX1_104 (tc_freeBetween z.2.1 EV (a := f) (b := ((3 - f) - t)) (by omega) (by omega) (by omega) hI) (fun M h _ => ⟨_, _, h.1 (10, 0) _ sC_10⟩) rfl rfl (fun _ h => Or.inl h) (by intro x hx; obtain rfl := List.mem_singleton.mp (show x ∈ [_] from hx); simp [tO]) rfl rfl (Nat.le_of_ble_eq_true rfl) (gFit.of hR (by decide) (Nat.le_of_ble_eq_true rfl) (Nat.le_of_ble_eq_true rfl)) (fun _ h => h.elim) (fun v9 A9 U9 L9 h9 => ?_)
      obtain ⟨rfl, h7, h8⟩ := h9
      obtain rfl := h7.symm
      obtain rfl := h8.symm
      refine t_drop ?_
      have bfb31 := uFB_r U (a := f) (b := ((3 - f) - t)) (by omega)
      refine t_eq (st' := [rfA A 14 (uFB U f ((3 - f) - t))]) rfl rfl ?_
      refine t_L (L' := [(a, (30, (100 + (U 43 0).toNat)), .inr (1, [.int (iI 0), .ref (EV.2.2.2 0), .int (iI 0)]))]) rfl ?_
      by_cases n31 : (uFB U f ((3 - f) - t)) < 0
      · refine t_eq (st' := [.null]) rfl (by rw [rfA_0 n31]) ?_
        refine t_run X 7 (pc1 := 50) (ls1 := [_, _, _, _, _, _, _, _]) (st1 := [_, _, _]) rfl ?_
        refine t_callV X [] [0] rfl mX1_104 (tc_freeBetween z.2.1 EV (a := ((3 - f) - t)) (b := t) (by omega) (by omega) (by omega) hI) (fun M h _ => ⟨_, _, h.1 (10, 0) _ sC_10⟩) rfl rfl (fun _ h => Or.inl h) (by intro x hx; obtain rfl := List.mem_singleton.mp (show x ∈ [_] from hx); simp [tO]) rfl rfl (Nat.le_of_ble_eq_true rfl) (gFit.of hR (by decide) (Nat.le_of_ble_eq_true rfl) (Nat.le_of_ble_eq_true rfl)) (fun _ h => h.elim) (fun v9 A9 U9 L9 h9 => ?_)
        obtain ⟨rfl, h7, h8⟩ := h9
        obtain rfl := h7.symm
        obtain rfl := h8.symm
        refine t_drop ?_
        have bfb50 := uFB_r U (a := ((3 - f) - t)) (b := t) (by omega)
        refine t_eq (st' := [rfA A 14 (uFB U ((3 - f) - t) t)]) rfl rfl ?_
        refine t_L (L' := [(a, (30, (100 + (U 43 0).toNat)), .inr (1, [.int (iI 0), .ref (EV.2.2.2 0), .int (iI 0)]))]) rfl ?_
        by_cases n50 : (uFB U ((3 - f) - t) t) < 0
        · refine t_eq (st' := [.null]) rfl (by rw [rfA_0 n50]) ?_
          refine t_run X 5 (pc1 := 71) (ls1 := [_, _, _, _, _, _, _, _]) (st1 := [_]) rfl ?_
          have e9 : uWay U f t = (-1, 0, 0) := by rw [uWay, if_neg (by omega), if_neg (by omega), if_pos (by omega)]
          exact t_aret X hQ rfl rfl (Or.inl ⟨_, rfl⟩) (Or.inl rfl) (by omega) (by omega) ⟨by rw [e9]; rfl, rfl, rfl, fun h => by rw [e9] at h; exact absurd h (by decide)⟩
        · refine t_eq (st' := [.ref (A 14 ((uFB U ((3 - f) - t) t).toNat))]) rfl (by rw [rfA_1 n50]) ?_
          refine t_run X 5 (pc1 := 71) (ls1 := [_, _, _, _, _, _, _, _]) (st1 := [_]) rfl ?_
          have e9 : uWay U f t = (-1, 0, 0) := by rw [uWay, if_neg (by omega), if_neg (by omega), if_pos (by omega)]
          exact t_aret X hQ rfl rfl (Or.inl ⟨_, rfl⟩) (Or.inl rfl) (by omega) (by omega) ⟨by rw [e9]; rfl, rfl, rfl, fun h => by rw [e9] at h; exact absurd h (by decide)⟩
      · refine t_eq (st' := [.ref (A 14 ((uFB U f ((3 - f) - t)).toNat))]) rfl (by rw [rfA_1 n31]) ?_
        refine t_run X 7 (pc1 := 50) (ls1 := [_, _, _, _, _, _, _, _]) (st1 := [_, _, _]) rfl ?_
        refine t_callV X [] [0] rfl mX1_104 (tc_freeBetween z.2.1 EV (a := ((3 - f) - t)) (b := t) (by omega) (by omega) (by omega) hI) (fun M h _ => ⟨_, _, h.1 (10, 0) _ sC_10⟩) rfl rfl (fun _ h => Or.inl h) (by intro x hx; obtain rfl := List.mem_singleton.mp (show x ∈ [_] from hx); simp [tO]) rfl rfl (Nat.le_of_ble_eq_true rfl) (gFit.of hR (by decide) (Nat.le_of_ble_eq_true rfl) (Nat.le_of_ble_eq_true rfl)) (fun _ h => h.elim) (fun v9 A9 U9 L9 h9 => ?_)
        obtain ⟨rfl, h7, h8⟩ := h9
        obtain rfl := h7.symm
        obtain rfl := h8.symm
        refine t_drop ?_
        have bfb50 := uFB_r U (a := ((3 - f) - t)) (b := t) (by omega)
        refine t_eq (st' := [rfA A 14 (uFB U ((3 - f) - t) t)]) rfl rfl ?_
        refine t_L (L' := [(a, (30, (100 + (U 43 0).toNat)), .inr (1, [.int (iI 0), .ref (EV.2.2.2 0), .int (iI 0)]))]) rfl ?_
        by_cases n50 : (uFB U ((3 - f) - t) t) < 0
        · refine t_eq (st' := [.null]) rfl (by rw [rfA_0 n50]) ?_
          refine t_run X 7 (pc1 := 71) (ls1 := [_, _, _, _, _, _, _, _]) (st1 := [_]) rfl ?_
          have e9 : uWay U f t = (-1, 0, 0) := by rw [uWay, if_neg (by omega), if_neg (by omega), if_pos (by omega)]
          exact t_aret X hQ rfl rfl (Or.inl ⟨_, rfl⟩) (Or.inl rfl) (by omega) (by omega) ⟨by rw [e9]; rfl, rfl, rfl, fun h => by rw [e9] at h; exact absurd h (by decide)⟩
        · refine t_eq (st' := [.ref (A 14 ((uFB U ((3 - f) - t) t).toNat))]) rfl (by rw [rfA_1 n50]) ?_
          refine t_run X 8 (pc1 := 75) (ls1 := [_, _, _, _, _, _, _, _]) (st1 := [_, _]) rfl ?_
          refine t_callV X [0] [] rfl mX1_50 (TC.ofJ (jc_addA z.2.1 EV (a := a) (x := (A 14 ((uFB U f ((3 - f) - t)).toNat))) (t := (30, (100 + (U 43 0).toNat))) (w := (1000, (100 + (U 43 0).toNat))) (m := 0) (by simp) (Nat.le_refl 30) (by show 30 ≤ 1000; omega)) (fun M hD _ => ⟨(fun j y e => nomatch e), gOz_14 hD (by omega)⟩) hdd) (fun M _ h => ⟨_, _, h.at (i := 0) rfl⟩) rfl rfl (fun _ h => Or.inr h) (fun _ h => by cases h) rfl rfl (Nat.le_of_ble_eq_true rfl) (gFit.of hR (by decide) (Nat.le_of_ble_eq_true rfl) (Nat.le_of_ble_eq_true rfl)) (fun _ h => h.elim) (fun v9 A9 U9 L9 h9 => ?_)
          obtain ⟨⟨qd, rfl, rfl⟩, h7, h8⟩ := h9
          obtain rfl := h7.symm
          obtain rfl := h8.symm
          refine t_eq (st' := [.int (iI 1)]) rfl rfl ?_
          refine t_L (L' := [(a, (30, (100 + (U 43 0).toNat)), .inr (1, [.int (iI (0 + 1)), .ref qd, .int (iI 1)])), (qd, (1000, (100 + (U 43 0).toNat)), .inl (EV.2.1 2, 10, .inr (.inr (.inr (.inr (va_up (fun _ => none) 0 (some (A 14 ((uFB U f ((3 - f) - t)).toNat)))))))))]) rfl ?_
          refine t_run X 3 (pc1 := 83) (ls1 := [_, _, _, _, _, _, _, _]) (st1 := [_, _]) rfl ?_
          refine t_acmpE X (some (A 14 ((uFB U ((3 - f) - t) t).toNat))) (some (A 14 ((uFB U f ((3 - f) - t)).toNat))) rfl rfl rfl (fun b9 => ?_) (fun b9 => ?_)
          · intro M h1 h2 h3; have h4 := h1.inj (c := 14) (sC_14 (by omega)) (sC_14 (by omega)) (Option.some.inj b9); exact absurd h4 (by omega)
          · skip
            refine t_run X 2 (pc1 := 89) (ls1 := [_, _, _, _, _, _, _, _]) (st1 := [_, _]) rfl ?_
            refine t_callV X [0, 1] [] rfl mX1_50 (TC.ofJ (jc_addB z.2.1 EV (a := a) (d := qd) (x := (A 14 ((uFB U ((3 - f) - t) t).toNat))) (t := (30, (100 + (U 43 0).toNat))) (u := (1000, (100 + (U 43 0).toNat))) (m := 0 + 1) (s0 := 1) (N := 10) (f := va_up (fun _ => none) 0 (some (A 14 ((uFB U f ((3 - f) - t)).toNat)))) (by simp) (Nat.le_refl 30) (by show 30 ≤ 1000; omega) (by decide) (by decide)) (fun M hD _ => ⟨(fun j y e => by unfold va_up at e; split at e; (injection e with e; subst e; exact gOz_14 hD (by omega)); cases e), gOz_14 hD (by omega)⟩) hdd) (fun M _ h => ⟨_, _, h.at (i := 0) rfl⟩) rfl rfl (fun _ h => Or.inr h) (fun _ h => by cases h) rfl rfl (Nat.le_of_ble_eq_true rfl) (gFit.of hR (by decide) (Nat.le_of_ble_eq_true rfl) (Nat.le_of_ble_eq_true rfl)) (fun _ h => h.elim) (fun v9 A9 U9 L9 h9 => ?_)
            obtain ⟨⟨rfl, rfl⟩, h7, h8⟩ := h9
            obtain rfl := h7.symm
            obtain rfl := h8.symm
            refine t_eq (st' := [.int (iI 1)]) rfl rfl ?_
            refine t_L (L' := [(a, (30, (100 + (U 43 0).toNat)), .inr (1, [.int (iI (0 + 1 + 1)), .ref qd, .int (iI (1 + 1))])), (qd, (1000, (100 + (U 43 0).toNat)), .inl (EV.2.1 2, 10, .inr (.inr (.inr (.inr (va_up (va_up (fun _ => none) 0 (some (A 14 ((uFB U f ((3 - f) - t)).toNat)))) (1 : Int).toNat (some (A 14 ((uFB U ((3 - f) - t) t).toNat)))))))))]) rfl ?_
            refine t_run X 2 (pc1 := 94) (ls1 := [_, _, _, _, _, _, _, _]) (st1 := [_]) rfl ?_
            have e9 : uWay U f t = (2, uFB U f ((3 - f) - t), uFB U ((3 - f) - t) t) := by rw [uWay, if_neg (by omega), if_neg (by omega), if_neg (by omega)]
            exact t_aret X hQ rfl rfl (Or.inl ⟨_, rfl⟩) (Or.inr ⟨_, rfl⟩) (by omega) (by omega) ⟨by rw [e9]; rfl, rfl, rfl, fun _ => by rw [e9]; exact uOv2 rfl rfl⟩
    · refine t_eq (st' := [.ref (A 14 ((uFB U f t).toNat))]) rfl (by rw [rfA_1 n10]) ?_
      refine t_run X 21 (pc1 := 75) (ls1 := [_, _, _, _, _, _, _, _]) (st1 := [_, _]) rfl ?_
      refine t_eq (ls' := [some (.ref (A 10 0)), some (.int (iI f)), some (.int (iI t)), some (.ref a), some (.ref (A 14 ((uFB U f t).toNat))), some (.int (iI ((3 - f) - t))), some (.ref (A 14 ((uFB U f t).toNat))), some (.ref (A 14 ((uFB U f t).toNat)))]) (st' := [.ref (A 14 ((uFB U f t).toNat)), .ref a]) (by first | rfl | (simp only [iI_add, iI_sub, iI_mul, iI_neg]; done) | (simp only [iI_add, iI_sub, iI_mul, iI_neg] <;> rfl)) (by first | rfl | (simp only [iI_add, iI_sub, iI_mul, iI_neg]; done) | (simp only [iI_add, iI_sub, iI_mul, iI_neg] <;> rfl)) ?_
      refine t_callV X [0] [] rfl mX1_50 (TC.ofJ (jc_addA z.2.1 EV (a := a) (x := (A 14 ((uFB U f t).toNat))) (t := (30, (100 + (U 43 0).toNat))) (w := (1000, (100 + (U 43 0).toNat))) (m := 0) (by simp) (Nat.le_refl 30) (by show 30 ≤ 1000; omega)) (fun M hD _ => ⟨(fun j y e => nomatch e), gOz_14 hD (by omega)⟩) hdd) (fun M _ h => ⟨_, _, h.at (i := 0) rfl⟩) rfl rfl (fun _ h => Or.inr h) (fun _ h => by cases h) rfl rfl (Nat.le_of_ble_eq_true rfl) (gFit.of hR (by decide) (Nat.le_of_ble_eq_true rfl) (Nat.le_of_ble_eq_true rfl)) (fun _ h => h.elim) (fun v9 A9 U9 L9 h9 => ?_)
      obtain ⟨⟨qd, rfl, rfl⟩, h7, h8⟩ := h9
      obtain rfl := h7.symm
      obtain rfl := h8.symm
      refine t_eq (st' := [.int (iI 1)]) rfl rfl ?_
      refine t_L (L' := [(a, (30, (100 + (U 43 0).toNat)), .inr (1, [.int (iI (0 + 1)), .ref qd, .int (iI 1)])), (qd, (1000, (100 + (U 43 0).toNat)), .inl (EV.2.1 2, 10, .inr (.inr (.inr (.inr (va_up (fun _ => none) 0 (some (A 14 ((uFB U f t).toNat)))))))))]) rfl ?_
      refine t_run X 3 (pc1 := 83) (ls1 := [_, _, _, _, _, _, _, _]) (st1 := [_, _]) rfl ?_
      refine t_acmpE X (some (A 14 ((uFB U f t).toNat))) (some (A 14 ((uFB U f t).toNat))) rfl rfl rfl (fun b9 => ?_) (fun b9 => ?_)
      · skip
        refine t_run X 1 (pc1 := 94) (ls1 := [_, _, _, _, _, _, _, _]) (st1 := [_]) rfl ?_
        have e9 : uWay U f t = (1, uFB U f t, 0) := by rw [uWay, if_neg (by omega), if_pos (by omega)]
        exact t_aret X hQ rfl rfl (Or.inl ⟨_, rfl⟩) (Or.inr ⟨_, rfl⟩) (by omega) (by omega) ⟨by rw [e9]; rfl, rfl, rfl, fun _ => by rw [e9]; exact uOv1 rfl⟩
      · exact absurd rfl b9
  · have c2 : f = t := cEq b9 (by omega) (by omega)
    refine t_run X 1 (pc1 := 6) (ls1 := [_, _, _, _, _, _, _, _]) (st1 := [_]) rfl ?_
    have e9 : uWay U f t = (0, 0, 0) := by rw [uWay, if_pos (by omega)]
    exact t_aret X hQ rfl rfl (Or.inl ⟨_, rfl⟩) (Or.inr ⟨_, rfl⟩) (by omega) (by omega) ⟨by rw [e9]; rfl, rfl, rfl, fun _ => by rw [e9]; exact uOv0⟩
set_option maxHeartbeats 1000000 in
theorem tc_callInit0 (l : Launch) (EV : gEV) {A : gAd} {U : gV} {q a : Nat} {c y n x0 x1 : Int} {e0 e1 e2 e3 e5 : Value} {c1 : va_E} (hn : 0 ≤ n ∧ n ≤ 2) (hx : (0 ≤ x0 ∧ x0 < 6) ∧ 0 ≤ x1 ∧ x1 < 6) (h9r : ∀ k : Nat, k < 6 → U 9 k < U 43 0) (h31r : ∀ c j : Nat, (c : Int) < U 43 0 → (j : Int) < U 31 c → j < 2) (hO : ∀ M, gL M [(a, (30, (100 + (U 43 0).toNat)), c1)] → gAL EV M (100 + (U 43 0).toNat) a n.toNat (fun j => A 14 (if j = 0 then x0 else x1).toNat)) (hI : uI U) : TC l yX9_init cX9_init 7 none 5 1 4 EV (fun t => t.1 = 13 ∨ t.1 = 14 ∨ t = (71, 0)) [.ref q, .int (iI (U 43 0)), .int (iI c), .int (iI y), .ref a] A U [(q, (13, (U 43 0).toNat), .inr (15, [e0, e1, e2, e3, .null, e5])), (a, (30, (100 + (U 43 0).toNat)), c1)] (fun w A9 U9 L9 => w = none ∧ A9 = (aS (aS A 13 (U 43 0).toNat q) 30 (100 + (U 43 0).toNat) a) ∧ U9 = uCo (uC U c y n x0 x1) (U 43 0) n.toNat ∧ L9 = L9) (rNo) := by
  refine t_body tbX9_init tkX9_init (by decide) (by intro v hv; simp only [List.mem_cons, List.not_mem_nil, or_false] at hv; rcases hv with rfl | rfl | rfl | rfl | rfl <;> rfl) (Nat.le_of_ble_eq_true rfl) (fun M0 z Q X hl hR hQ hE => ?_)
  subst hl
  have hu := uIs hI
  unfold uS at hu
  have hdq : tDead EV A U (13, (U 43 0).toNat) := tDead_c (by decide) (if_neg (by show ¬ ((U 43 0).toNat : Int) < U 43 0; omega))
  have loop : ∀ (q9 j k : Nat), (k : Int) + j = n → gTd z (cX9_init, yX9_init.cls, 7, none, tbX9_init, yX9_init.name) EV Q (fun t => t.1 = 13 ∨ t.1 = 14 ∨ t = (71, 0)) M0 (aS (aS A 13 (U 43 0).toNat q) 30 (100 + (U 43 0).toNat) a) (uCo (uC U c y n x0 x1) (U 43 0) k) [(q9, (71, 0), itA ((aS (aS A 13 (U 43 0).toNat q) 30 (100 + (U 43 0).toNat) a) 30 (100 + (U 43 0).toNat)) n.toNat k)] 1 4 37 [some (.ref q), some (.int (iI (U 43 0))), some (.int (iI c)), some (.int (iI y)), some (.ref ((aS (aS A 13 (U 43 0).toNat q) 30 (100 + (U 43 0).toNat) a) 30 (100 + (U 43 0).toNat))), some (.ref q9), none] [] := by
    intro q9 j
    induction j with
    | zero =>
      intro k hk
      have hal : alL (uCo (uC U c y n x0 x1) (U 43 0) k) (100 + (U 43 0).toNat) := by
        refine Or.inr (Or.inr ⟨by omega, ?_⟩)
        rw [uCo_k (by decide)]
        show _ < vS _ 43 0 _ 43 0
        rw [vS_s]
        omega
      have hN : alN (uCo (uC U c y n x0 x1) (U 43 0) k) (100 + (U 43 0).toNat) = n := by rw [alN_o, uCo_k (by decide)]; show vS _ 31 _ _ 31 _ = _; rw [vS_s]
      refine t_run X 1 (pc1 := 39) (ls1 := [_, _, _, _, _, _, _]) (st1 := [_]) rfl ?_
      refine t_callF X [0] [] rfl mX9_33_14 (tc_alhasN z.2.1 EV (k := k) hal hN (by omega) (by omega)) (fun M _ h => ⟨_, _, h.at (i := 0) rfl⟩) rfl rfl (fun _ h => h.elim) (fun _ _ h => h) rfl rfl (Nat.le_of_ble_eq_true rfl) (gFit.of hR (by decide) (Nat.le_of_ble_eq_true rfl) (Nat.le_of_ble_eq_true rfl)) (fun _ h => h.elim) (fun v9 A9 U9 L9 h9 => ?_)
      obtain ⟨rfl, h7, h8, rfl⟩ := h9
      obtain rfl := h7.symm
      obtain rfl := h8.symm
      refine t_eq (st' := [.int (iI (bI (¬ ((k : Nat) : Int) = n)))]) rfl rfl ?_
      refine t_L (L' := [(q9, (71, 0), itA ((aS (aS A 13 (U 43 0).toNat q) 30 (100 + (U 43 0).toNat) a) 30 (100 + (U 43 0).toNat)) n.toNat k)]) rfl ?_
      refine t_br X (pc1 := 68) (st1 := []) rfl (fun b9 => ?_) (fun b9 => ?_)
      · have c44 : ¬ (¬ ((k : Nat) : Int) = n) := bI_f b9
        have e9 : k = n.toNat := by omega
        subst e9
        exact t_vret X hQ rfl rfl (by omega) (by omega) ⟨rfl, rfl, rfl, rfl⟩
      · have c44 : ¬ ((k : Nat) : Int) = n := bI_t b9
        exact absurd (by omega) c44
    | succ j ih =>
      intro k hk
      have hal : alL (uCo (uC U c y n x0 x1) (U 43 0) k) (100 + (U 43 0).toNat) := by
        refine Or.inr (Or.inr ⟨by omega, ?_⟩)
        rw [uCo_k (by decide)]
        show _ < vS _ 43 0 _ 43 0
        rw [vS_s]
        omega
      have hN : alN (uCo (uC U c y n x0 x1) (U 43 0) k) (100 + (U 43 0).toNat) = n := by rw [alN_o, uCo_k (by decide)]; show vS _ 31 _ _ 31 _ = _; rw [vS_s]
      have hF : alF (aS (aS A 13 (U 43 0).toNat q) 30 (100 + (U 43 0).toNat) a) (uCo (uC U c y n x0 x1) (U 43 0) k) (100 + (U 43 0).toNat) k = (aS (aS A 13 (U 43 0).toNat q) 30 (100 + (U 43 0).toNat) a) 14 (if k = 0 then x0 else x1).toNat := by
        rw [alF_o, uCo_k (by decide)]
        show A 14 (vS (vS _ 32 _ x0) 32 _ x1 32 (2 * (U 43 0).toNat + k)).toNat = A 14 _
        rcases (by omega : k = 0 ∨ k = 1) with rfl | rfl
        · rw [vS_i (by omega), Nat.add_zero, vS_s, if_pos rfl]
        · rw [vS_s, if_neg (by decide)]
      have e32 : (uC U c y n x0 x1) 32 (2 * U 43 0 + (k : Int)).toNat = (if k = 0 then x0 else x1) := by
        rw [show (2 * U 43 0 + (k : Int)).toNat = 2 * (U 43 0).toNat + k by omega]
        show vS (vS _ 32 _ x0) 32 _ x1 32 (2 * (U 43 0).toNat + k) = _
        rcases (by omega : k = 0 ∨ k = 1) with rfl | rfl
        · rw [vS_i (by omega), Nat.add_zero, vS_s, if_pos rfl]
        · rw [vS_s, if_neg (by decide)]
      refine t_run X 1 (pc1 := 39) (ls1 := [_, _, _, _, _, _, _]) (st1 := [_]) rfl ?_
      refine t_callF X [0] [] rfl mX9_33_14 (tc_alhasN z.2.1 EV (k := k) hal hN (by omega) (by omega)) (fun M _ h => ⟨_, _, h.at (i := 0) rfl⟩) rfl rfl (fun _ h => h.elim) (fun _ _ h => h) rfl rfl (Nat.le_of_ble_eq_true rfl) (gFit.of hR (by decide) (Nat.le_of_ble_eq_true rfl) (Nat.le_of_ble_eq_true rfl)) (fun _ h => h.elim) (fun v9 A9 U9 L9 h9 => ?_)
      obtain ⟨rfl, h7, h8, rfl⟩ := h9
      obtain rfl := h7.symm
      obtain rfl := h8.symm
      refine t_eq (st' := [.int (iI (bI (¬ ((k : Nat) : Int) = n)))]) rfl rfl ?_
      refine t_L (L' := [(q9, (71, 0), itA ((aS (aS A 13 (U 43 0).toNat q) 30 (100 + (U 43 0).toNat) a) 30 (100 + (U 43 0).toNat)) n.toNat k)]) rfl ?_
      refine t_br X (pc1 := 68) (st1 := []) rfl (fun b9 => ?_) (fun b9 => ?_)
      · have c44 : ¬ (¬ ((k : Nat) : Int) = n) := bI_f b9
        exact absurd (by omega) c44
      · have c44 : ¬ ((k : Nat) : Int) = n := bI_t b9
        refine t_run X 1 (pc1 := 49) (ls1 := [_, _, _, _, _, _, _]) (st1 := [_]) rfl ?_
        refine t_callF X [0] [] rfl mX9_39_14 (tc_alnextN z.2.1 EV (u := (71, 0)) (k := k) hal hN (by omega) (by decide) (by omega) hF) (fun M _ h => ⟨_, _, h.at (i := 0) rfl⟩) rfl rfl (fun _ h => Or.inr (Or.inr h)) (fun _ h => by cases h) rfl rfl (Nat.le_of_ble_eq_true rfl) (gFit.of hR (by decide) (Nat.le_of_ble_eq_true rfl) (Nat.le_of_ble_eq_true rfl)) (fun _ h => h.elim) (fun v9 A9 U9 L9 h9 => ?_)
        obtain ⟨rfl, h7, h8, rfl⟩ := h9
        obtain rfl := h7.symm
        obtain rfl := h8.symm
        refine t_eq (st' := [.ref ((aS (aS A 13 (U 43 0).toNat q) 30 (100 + (U 43 0).toNat) a) 14 ((if k = 0 then x0 else x1).toNat))]) rfl rfl ?_
        refine t_L (L' := [(q9, (71, 0), itA ((aS (aS A 13 (U 43 0).toNat q) 30 (100 + (U 43 0).toNat) a) 30 (100 + (U 43 0).toNat)) n.toNat (k + 1))]) rfl ?_
        refine t_cast X rfl kX9_43_5 (fun M h _ => ⟨_, _, h.1 (14, (if k = 0 then x0 else x1).toNat) _ (sC_14 (by split <;> omega))⟩) ?_
        refine t_run X 3 (pc1 := 62) (ls1 := [_, _, _, _, _, _, _]) (st1 := [_, _]) rfl ?_
        refine t_eq (st' := [rfA (aS (aS A 13 (U 43 0).toNat q) 30 (100 + (U 43 0).toNat) a) 13 (U 43 0), .ref ((aS (aS A 13 (U 43 0).toNat q) 30 (100 + (U 43 0).toNat) a) 14 (if k = 0 then x0 else x1).toNat)]) rfl (by rw [rfA_1 (by omega), show (aS (aS A 13 (U 43 0).toNat q) 30 (100 + (U 43 0).toNat) a) 13 (U 43 0).toNat = q from (aS_n (Or.inl (by decide))).trans aS_s]) ?_
        refine t_pu9 X (i := (if k = 0 then x0 else x1).toNat) (x := U 43 0) rfl fX9_45 (by split <;> omega) (Or.inr (Or.inl rfl)) (by intro x hx; obtain rfl := List.mem_singleton.mp (show x ∈ [_] from hx); simp) ?_
        refine t_U (U' := uCo (uC U c y n x0 x1) (U 43 0) (k + 1)) (by rw [uCo, e32]) ?_
        refine t_run X 1 (pc1 := 37) (ls1 := [_, _, _, _, _, _, _]) (st1 := []) rfl ?_
        exact t_forget [true, true, true, true, true, true, false] rfl (ih (k + 1) (by omega))
  refine t_eq (ls' := [some (.ref q), some (.int (iI (U 43 0))), some (.int (iI c)), some (.int (iI y)), some (.ref a), none, none]) (st' := []) rfl rfl ?_
  refine t_run X 1 (pc1 := 1) (ls1 := [_, _, _, _, _, _, _]) (st1 := [_]) rfl ?_
  refine t_oinit X rfl q1881 ⟨by rw [hR]; exact Nat.le_of_ble_eq_true rfl, by rw [hR]; exact Nat.le_of_ble_eq_true rfl⟩ (Nat.le_of_ble_eq_true rfl) ?_
  refine t_run X 2 (pc1 := 6) (ls1 := [_, _, _, _, _, _, _]) (st1 := [_, _]) rfl ?_
  refine t_lput X 0 rfl fX9_7 rfl (gDb_s rfl) (Or.inl rfl) (hdq) rfl rfl (Nat.le_of_ble_eq_true rfl) (L' := [(q, (13, (U 43 0).toNat), .inr (15, [e0, e1, e2, e3, .null, .int (iI 1)])), (a, (30, (100 + (U 43 0).toNat)), c1)]) rfl ?_
  refine t_run X 2 (pc1 := 11) (ls1 := [_, _, _, _, _, _, _]) (st1 := [_, _]) rfl ?_
  refine t_lputF X 0 rfl rfl fX9_13 rfl (gDb_s rfl) (Or.inl rfl) (hdq) rfl rfl (Nat.le_of_ble_eq_true rfl) (L' := [(q, (13, (U 43 0).toNat), .inr (15, [.int (iI (U 43 0)), e1, e2, e3, .null, .int (iI 1)])), (a, (30, (100 + (U 43 0).toNat)), c1)]) rfl ?_
  refine t_run X 2 (pc1 := 16) (ls1 := [_, _, _, _, _, _, _]) (st1 := [_, _]) rfl ?_
  refine t_lputF X 0 rfl rfl fX9_17 rfl (gDb_s rfl) (Or.inl rfl) (hdq) rfl rfl (Nat.le_of_ble_eq_true rfl) (L' := [(q, (13, (U 43 0).toNat), .inr (15, [.int (iI (U 43 0)), .int (iI c), e2, e3, .null, .int (iI 1)])), (a, (30, (100 + (U 43 0).toNat)), c1)]) rfl ?_
  refine t_run X 2 (pc1 := 21) (ls1 := [_, _, _, _, _, _, _]) (st1 := [_, _]) rfl ?_
  refine t_lputF X 0 rfl rfl fX9_20 rfl (gDb_s rfl) (Or.inl rfl) (hdq) rfl rfl (Nat.le_of_ble_eq_true rfl) (L' := [(q, (13, (U 43 0).toNat), .inr (15, [.int (iI (U 43 0)), .int (iI c), .int (iI y), e3, .null, .int (iI 1)])), (a, (30, (100 + (U 43 0).toNat)), c1)]) rfl ?_
  refine t_run X 2 (pc1 := 27) (ls1 := [_, _, _, _, _, _, _]) (st1 := [_, _]) rfl ?_
  refine t_lputF X 0 rfl rfl fX9_23 rfl (gDb_s rfl) (Or.inl rfl) (hdq) rfl rfl (Nat.le_of_ble_eq_true rfl) (L' := [(q, (13, (U 43 0).toNat), .inr (15, [.int (iI (U 43 0)), .int (iI c), .int (iI y), .ref a, .null, .int (iI 1)])), (a, (30, (100 + (U 43 0).toNat)), c1)]) rfl ?_
  refine t_take (A' := (aS (aS A 13 (U 43 0).toNat q) 30 (100 + (U 43 0).toNat) a)) (U' := (uC U c y n x0 x1)) (L' := []) (fun M hD hL => ⟨hD.newC (n := n) (x0 := x0) (x1 := x1) (by omega) (by omega) (by omega) hn (hL.at (i := 0) rfl) (hO M (hL.sub [1] rfl)) h9r h31r, fun x hx => nomatch hx⟩) ?_
  have hal0 : alL (uC U c y n x0 x1) (100 + (U 43 0).toNat) := Or.inr (Or.inr ⟨by omega, by show _ < vS _ 43 0 _ 43 0; rw [vS_s]; omega⟩)
  have hN0 : alN (uC U c y n x0 x1) (100 + (U 43 0).toNat) = n := by rw [alN_o]; show vS _ 31 _ _ 31 _ = _; rw [vS_s]
  refine t_eq (ls' := [some (.ref q), some (.int (iI (U 43 0))), some (.int (iI c)), some (.int (iI y)), some (.ref ((aS (aS A 13 (U 43 0).toNat q) 30 (100 + (U 43 0).toNat) a) 30 (100 + (U 43 0).toNat))), none, none]) (st' := []) (by rw [aS_s]) rfl ?_
  refine t_run X 1 (pc1 := 32) (ls1 := [_, _, _, _, _, _, _]) (st1 := [_]) rfl ?_
  refine t_callV X [] [] rfl mX9_27 (tc_aliterN z.2.1 EV (A := (aS (aS A 13 (U 43 0).toNat q) 30 (100 + (U 43 0).toNat) a)) (U := (uC U c y n x0 x1)) (i := (100 + (U 43 0).toNat)) hal0 hN0 (71, 0) (by decide)) (fun M h _ => gAL_at (h.2.1 _ hal0)) rfl rfl (fun _ h => Or.inr (Or.inr h)) (fun _ h => by cases h) rfl rfl (Nat.le_of_ble_eq_true rfl) (gFit.of hR (by decide) (Nat.le_of_ble_eq_true rfl) (Nat.le_of_ble_eq_true rfl)) (fun _ h => h.elim) (fun v9 A9 U9 L9 h9 => ?_)
  obtain ⟨q1, rfl, h7, h8, rfl⟩ := h9
  subst h7
  subst h8
  refine t_eq (st' := [.ref q1]) rfl rfl ?_
  refine t_L (L' := [(q1, (71, 0), itA ((aS (aS A 13 (U 43 0).toNat q) 30 (100 + (U 43 0).toNat) a) 30 (100 + (U 43 0).toNat)) n.toNat 0)]) rfl ?_
  refine t_run X 1 (pc1 := 37) (ls1 := [_, _, _, _, _, _, _]) (st1 := []) rfl ?_
  exact loop q1 n.toNat 0 (by omega)
set_option maxHeartbeats 1000000 in
theorem tc_callInitN (l : Launch) (EV : gEV) {A : gAd} {U : gV} {q a d : Nat} {c y n x0 x1 : Int} {e0 e1 e2 e3 e5 : Value} {c1 c2 : va_E} (hn : 0 ≤ n ∧ n ≤ 2) (hx : (0 ≤ x0 ∧ x0 < 6) ∧ 0 ≤ x1 ∧ x1 < 6) (h9r : ∀ k : Nat, k < 6 → U 9 k < U 43 0) (h31r : ∀ c j : Nat, (c : Int) < U 43 0 → (j : Int) < U 31 c → j < 2) (hO : ∀ M, gL M [(a, (30, (100 + (U 43 0).toNat)), c1), (d, (1000, (100 + (U 43 0).toNat)), c2)] → gAL EV M (100 + (U 43 0).toNat) a n.toNat (fun j => A 14 (if j = 0 then x0 else x1).toNat)) (hI : uI U) : TC l yX9_init cX9_init 7 none 5 1 4 EV (fun t => t.1 = 13 ∨ t.1 = 14 ∨ t = (71, 0)) [.ref q, .int (iI (U 43 0)), .int (iI c), .int (iI y), .ref a] A U [(q, (13, (U 43 0).toNat), .inr (15, [e0, e1, e2, e3, .null, e5])), (a, (30, (100 + (U 43 0).toNat)), c1), (d, (1000, (100 + (U 43 0).toNat)), c2)] (fun w A9 U9 L9 => w = none ∧ A9 = (aS (aS A 13 (U 43 0).toNat q) 30 (100 + (U 43 0).toNat) a) ∧ U9 = uCo (uC U c y n x0 x1) (U 43 0) n.toNat ∧ L9 = L9) (rNo) := by
  refine t_body tbX9_init tkX9_init (by decide) (by intro v hv; simp only [List.mem_cons, List.not_mem_nil, or_false] at hv; rcases hv with rfl | rfl | rfl | rfl | rfl <;> rfl) (Nat.le_of_ble_eq_true rfl) (fun M0 z Q X hl hR hQ hE => ?_)
  subst hl
  have hu := uIs hI
  unfold uS at hu
  have hdq : tDead EV A U (13, (U 43 0).toNat) := tDead_c (by decide) (if_neg (by show ¬ ((U 43 0).toNat : Int) < U 43 0; omega))
  have loop : ∀ (q9 j k : Nat), (k : Int) + j = n → gTd z (cX9_init, yX9_init.cls, 7, none, tbX9_init, yX9_init.name) EV Q (fun t => t.1 = 13 ∨ t.1 = 14 ∨ t = (71, 0)) M0 (aS (aS A 13 (U 43 0).toNat q) 30 (100 + (U 43 0).toNat) a) (uCo (uC U c y n x0 x1) (U 43 0) k) [(q9, (71, 0), itA ((aS (aS A 13 (U 43 0).toNat q) 30 (100 + (U 43 0).toNat) a) 30 (100 + (U 43 0).toNat)) n.toNat k)] 1 4 37 [some (.ref q), some (.int (iI (U 43 0))), some (.int (iI c)), some (.int (iI y)), some (.ref ((aS (aS A 13 (U 43 0).toNat q) 30 (100 + (U 43 0).toNat) a) 30 (100 + (U 43 0).toNat))), some (.ref q9), none] [] := by
    intro q9 j
    induction j with
    | zero =>
      intro k hk
      have hal : alL (uCo (uC U c y n x0 x1) (U 43 0) k) (100 + (U 43 0).toNat) := by
        refine Or.inr (Or.inr ⟨by omega, ?_⟩)
        rw [uCo_k (by decide)]
        show _ < vS _ 43 0 _ 43 0
        rw [vS_s]
        omega
      have hN : alN (uCo (uC U c y n x0 x1) (U 43 0) k) (100 + (U 43 0).toNat) = n := by rw [alN_o, uCo_k (by decide)]; show vS _ 31 _ _ 31 _ = _; rw [vS_s]
      refine t_run X 1 (pc1 := 39) (ls1 := [_, _, _, _, _, _, _]) (st1 := [_]) rfl ?_
      refine t_callF X [0] [] rfl mX9_33_14 (tc_alhasN z.2.1 EV (k := k) hal hN (by omega) (by omega)) (fun M _ h => ⟨_, _, h.at (i := 0) rfl⟩) rfl rfl (fun _ h => h.elim) (fun _ _ h => h) rfl rfl (Nat.le_of_ble_eq_true rfl) (gFit.of hR (by decide) (Nat.le_of_ble_eq_true rfl) (Nat.le_of_ble_eq_true rfl)) (fun _ h => h.elim) (fun v9 A9 U9 L9 h9 => ?_)
      obtain ⟨rfl, h7, h8, rfl⟩ := h9
      obtain rfl := h7.symm
      obtain rfl := h8.symm
      refine t_eq (st' := [.int (iI (bI (¬ ((k : Nat) : Int) = n)))]) rfl rfl ?_
      refine t_L (L' := [(q9, (71, 0), itA ((aS (aS A 13 (U 43 0).toNat q) 30 (100 + (U 43 0).toNat) a) 30 (100 + (U 43 0).toNat)) n.toNat k)]) rfl ?_
      refine t_br X (pc1 := 68) (st1 := []) rfl (fun b9 => ?_) (fun b9 => ?_)
      · have c44 : ¬ (¬ ((k : Nat) : Int) = n) := bI_f b9
        have e9 : k = n.toNat := by omega
        subst e9
        exact t_vret X hQ rfl rfl (by omega) (by omega) ⟨rfl, rfl, rfl, rfl⟩
      · have c44 : ¬ ((k : Nat) : Int) = n := bI_t b9
        exact absurd (by omega) c44
    | succ j ih =>
      intro k hk
      have hal : alL (uCo (uC U c y n x0 x1) (U 43 0) k) (100 + (U 43 0).toNat) := by
        refine Or.inr (Or.inr ⟨by omega, ?_⟩)
        rw [uCo_k (by decide)]
        show _ < vS _ 43 0 _ 43 0
        rw [vS_s]
        omega
      have hN : alN (uCo (uC U c y n x0 x1) (U 43 0) k) (100 + (U 43 0).toNat) = n := by rw [alN_o, uCo_k (by decide)]; show vS _ 31 _ _ 31 _ = _; rw [vS_s]
      have hF : alF (aS (aS A 13 (U 43 0).toNat q) 30 (100 + (U 43 0).toNat) a) (uCo (uC U c y n x0 x1) (U 43 0) k) (100 + (U 43 0).toNat) k = (aS (aS A 13 (U 43 0).toNat q) 30 (100 + (U 43 0).toNat) a) 14 (if k = 0 then x0 else x1).toNat := by
        rw [alF_o, uCo_k (by decide)]
        show A 14 (vS (vS _ 32 _ x0) 32 _ x1 32 (2 * (U 43 0).toNat + k)).toNat = A 14 _
        rcases (by omega : k = 0 ∨ k = 1) with rfl | rfl
        · rw [vS_i (by omega), Nat.add_zero, vS_s, if_pos rfl]
        · rw [vS_s, if_neg (by decide)]
      have e32 : (uC U c y n x0 x1) 32 (2 * U 43 0 + (k : Int)).toNat = (if k = 0 then x0 else x1) := by
        rw [show (2 * U 43 0 + (k : Int)).toNat = 2 * (U 43 0).toNat + k by omega]
        show vS (vS _ 32 _ x0) 32 _ x1 32 (2 * (U 43 0).toNat + k) = _
        rcases (by omega : k = 0 ∨ k = 1) with rfl | rfl
        · rw [vS_i (by omega), Nat.add_zero, vS_s, if_pos rfl]
        · rw [vS_s, if_neg (by decide)]
      refine t_run X 1 (pc1 := 39) (ls1 := [_, _, _, _, _, _, _]) (st1 := [_]) rfl ?_
      refine t_callF X [0] [] rfl mX9_33_14 (tc_alhasN z.2.1 EV (k := k) hal hN (by omega) (by omega)) (fun M _ h => ⟨_, _, h.at (i := 0) rfl⟩) rfl rfl (fun _ h => h.elim) (fun _ _ h => h) rfl rfl (Nat.le_of_ble_eq_true rfl) (gFit.of hR (by decide) (Nat.le_of_ble_eq_true rfl) (Nat.le_of_ble_eq_true rfl)) (fun _ h => h.elim) (fun v9 A9 U9 L9 h9 => ?_)
      obtain ⟨rfl, h7, h8, rfl⟩ := h9
      obtain rfl := h7.symm
      obtain rfl := h8.symm
      refine t_eq (st' := [.int (iI (bI (¬ ((k : Nat) : Int) = n)))]) rfl rfl ?_
      refine t_L (L' := [(q9, (71, 0), itA ((aS (aS A 13 (U 43 0).toNat q) 30 (100 + (U 43 0).toNat) a) 30 (100 + (U 43 0).toNat)) n.toNat k)]) rfl ?_
      refine t_br X (pc1 := 68) (st1 := []) rfl (fun b9 => ?_) (fun b9 => ?_)
      · have c44 : ¬ (¬ ((k : Nat) : Int) = n) := bI_f b9
        exact absurd (by omega) c44
      · have c44 : ¬ ((k : Nat) : Int) = n := bI_t b9
        refine t_run X 1 (pc1 := 49) (ls1 := [_, _, _, _, _, _, _]) (st1 := [_]) rfl ?_
        refine t_callF X [0] [] rfl mX9_39_14 (tc_alnextN z.2.1 EV (u := (71, 0)) (k := k) hal hN (by omega) (by decide) (by omega) hF) (fun M _ h => ⟨_, _, h.at (i := 0) rfl⟩) rfl rfl (fun _ h => Or.inr (Or.inr h)) (fun _ h => by cases h) rfl rfl (Nat.le_of_ble_eq_true rfl) (gFit.of hR (by decide) (Nat.le_of_ble_eq_true rfl) (Nat.le_of_ble_eq_true rfl)) (fun _ h => h.elim) (fun v9 A9 U9 L9 h9 => ?_)
        obtain ⟨rfl, h7, h8, rfl⟩ := h9
        obtain rfl := h7.symm
        obtain rfl := h8.symm
        refine t_eq (st' := [.ref ((aS (aS A 13 (U 43 0).toNat q) 30 (100 + (U 43 0).toNat) a) 14 ((if k = 0 then x0 else x1).toNat))]) rfl rfl ?_
        refine t_L (L' := [(q9, (71, 0), itA ((aS (aS A 13 (U 43 0).toNat q) 30 (100 + (U 43 0).toNat) a) 30 (100 + (U 43 0).toNat)) n.toNat (k + 1))]) rfl ?_
        refine t_cast X rfl kX9_43_5 (fun M h _ => ⟨_, _, h.1 (14, (if k = 0 then x0 else x1).toNat) _ (sC_14 (by split <;> omega))⟩) ?_
        refine t_run X 3 (pc1 := 62) (ls1 := [_, _, _, _, _, _, _]) (st1 := [_, _]) rfl ?_
        refine t_eq (st' := [rfA (aS (aS A 13 (U 43 0).toNat q) 30 (100 + (U 43 0).toNat) a) 13 (U 43 0), .ref ((aS (aS A 13 (U 43 0).toNat q) 30 (100 + (U 43 0).toNat) a) 14 (if k = 0 then x0 else x1).toNat)]) rfl (by rw [rfA_1 (by omega), show (aS (aS A 13 (U 43 0).toNat q) 30 (100 + (U 43 0).toNat) a) 13 (U 43 0).toNat = q from (aS_n (Or.inl (by decide))).trans aS_s]) ?_
        refine t_pu9 X (i := (if k = 0 then x0 else x1).toNat) (x := U 43 0) rfl fX9_45 (by split <;> omega) (Or.inr (Or.inl rfl)) (by intro x hx; obtain rfl := List.mem_singleton.mp (show x ∈ [_] from hx); simp) ?_
        refine t_U (U' := uCo (uC U c y n x0 x1) (U 43 0) (k + 1)) (by rw [uCo, e32]) ?_
        refine t_run X 1 (pc1 := 37) (ls1 := [_, _, _, _, _, _, _]) (st1 := []) rfl ?_
        exact t_forget [true, true, true, true, true, true, false] rfl (ih (k + 1) (by omega))
  refine t_eq (ls' := [some (.ref q), some (.int (iI (U 43 0))), some (.int (iI c)), some (.int (iI y)), some (.ref a), none, none]) (st' := []) rfl rfl ?_
  refine t_run X 1 (pc1 := 1) (ls1 := [_, _, _, _, _, _, _]) (st1 := [_]) rfl ?_
  refine t_oinit X rfl q1881 ⟨by rw [hR]; exact Nat.le_of_ble_eq_true rfl, by rw [hR]; exact Nat.le_of_ble_eq_true rfl⟩ (Nat.le_of_ble_eq_true rfl) ?_
  refine t_run X 2 (pc1 := 6) (ls1 := [_, _, _, _, _, _, _]) (st1 := [_, _]) rfl ?_
  refine t_lput X 0 rfl fX9_7 rfl (gDb_s rfl) (Or.inl rfl) (hdq) rfl rfl (Nat.le_of_ble_eq_true rfl) (L' := [(q, (13, (U 43 0).toNat), .inr (15, [e0, e1, e2, e3, .null, .int (iI 1)])), (a, (30, (100 + (U 43 0).toNat)), c1), (d, (1000, (100 + (U 43 0).toNat)), c2)]) rfl ?_
  refine t_run X 2 (pc1 := 11) (ls1 := [_, _, _, _, _, _, _]) (st1 := [_, _]) rfl ?_
  refine t_lputF X 0 rfl rfl fX9_13 rfl (gDb_s rfl) (Or.inl rfl) (hdq) rfl rfl (Nat.le_of_ble_eq_true rfl) (L' := [(q, (13, (U 43 0).toNat), .inr (15, [.int (iI (U 43 0)), e1, e2, e3, .null, .int (iI 1)])), (a, (30, (100 + (U 43 0).toNat)), c1), (d, (1000, (100 + (U 43 0).toNat)), c2)]) rfl ?_
  refine t_run X 2 (pc1 := 16) (ls1 := [_, _, _, _, _, _, _]) (st1 := [_, _]) rfl ?_
  refine t_lputF X 0 rfl rfl fX9_17 rfl (gDb_s rfl) (Or.inl rfl) (hdq) rfl rfl (Nat.le_of_ble_eq_true rfl) (L' := [(q, (13, (U 43 0).toNat), .inr (15, [.int (iI (U 43 0)), .int (iI c), e2, e3, .null, .int (iI 1)])), (a, (30, (100 + (U 43 0).toNat)), c1), (d, (1000, (100 + (U 43 0).toNat)), c2)]) rfl ?_
  refine t_run X 2 (pc1 := 21) (ls1 := [_, _, _, _, _, _, _]) (st1 := [_, _]) rfl ?_
  refine t_lputF X 0 rfl rfl fX9_20 rfl (gDb_s rfl) (Or.inl rfl) (hdq) rfl rfl (Nat.le_of_ble_eq_true rfl) (L' := [(q, (13, (U 43 0).toNat), .inr (15, [.int (iI (U 43 0)), .int (iI c), .int (iI y), e3, .null, .int (iI 1)])), (a, (30, (100 + (U 43 0).toNat)), c1), (d, (1000, (100 + (U 43 0).toNat)), c2)]) rfl ?_
  refine t_run X 2 (pc1 := 27) (ls1 := [_, _, _, _, _, _, _]) (st1 := [_, _]) rfl ?_
  refine t_lputF X 0 rfl rfl fX9_23 rfl (gDb_s rfl) (Or.inl rfl) (hdq) rfl rfl (Nat.le_of_ble_eq_true rfl) (L' := [(q, (13, (U 43 0).toNat), .inr (15, [.int (iI (U 43 0)), .int (iI c), .int (iI y), .ref a, .null, .int (iI 1)])), (a, (30, (100 + (U 43 0).toNat)), c1), (d, (1000, (100 + (U 43 0).toNat)), c2)]) rfl ?_
  refine t_take (A' := (aS (aS A 13 (U 43 0).toNat q) 30 (100 + (U 43 0).toNat) a)) (U' := (uC U c y n x0 x1)) (L' := []) (fun M hD hL => ⟨hD.newC (n := n) (x0 := x0) (x1 := x1) (by omega) (by omega) (by omega) hn (hL.at (i := 0) rfl) (hO M (hL.sub [1, 2] rfl)) h9r h31r, fun x hx => nomatch hx⟩) ?_
  have hal0 : alL (uC U c y n x0 x1) (100 + (U 43 0).toNat) := Or.inr (Or.inr ⟨by omega, by show _ < vS _ 43 0 _ 43 0; rw [vS_s]; omega⟩)
  have hN0 : alN (uC U c y n x0 x1) (100 + (U 43 0).toNat) = n := by rw [alN_o]; show vS _ 31 _ _ 31 _ = _; rw [vS_s]
  refine t_eq (ls' := [some (.ref q), some (.int (iI (U 43 0))), some (.int (iI c)), some (.int (iI y)), some (.ref ((aS (aS A 13 (U 43 0).toNat q) 30 (100 + (U 43 0).toNat) a) 30 (100 + (U 43 0).toNat))), none, none]) (st' := []) (by rw [aS_s]) rfl ?_
  refine t_run X 1 (pc1 := 32) (ls1 := [_, _, _, _, _, _, _]) (st1 := [_]) rfl ?_
  refine t_callV X [] [] rfl mX9_27 (tc_aliterN z.2.1 EV (A := (aS (aS A 13 (U 43 0).toNat q) 30 (100 + (U 43 0).toNat) a)) (U := (uC U c y n x0 x1)) (i := (100 + (U 43 0).toNat)) hal0 hN0 (71, 0) (by decide)) (fun M h _ => gAL_at (h.2.1 _ hal0)) rfl rfl (fun _ h => Or.inr (Or.inr h)) (fun _ h => by cases h) rfl rfl (Nat.le_of_ble_eq_true rfl) (gFit.of hR (by decide) (Nat.le_of_ble_eq_true rfl) (Nat.le_of_ble_eq_true rfl)) (fun _ h => h.elim) (fun v9 A9 U9 L9 h9 => ?_)
  obtain ⟨q1, rfl, h7, h8, rfl⟩ := h9
  subst h7
  subst h8
  refine t_eq (st' := [.ref q1]) rfl rfl ?_
  refine t_L (L' := [(q1, (71, 0), itA ((aS (aS A 13 (U 43 0).toNat q) 30 (100 + (U 43 0).toNat) a) 30 (100 + (U 43 0).toNat)) n.toNat 0)]) rfl ?_
  refine t_run X 1 (pc1 := 37) (ls1 := [_, _, _, _, _, _, _]) (st1 := []) rfl ?_
  exact loop q1 n.toNat 0 (by omega)
