/-! THE SYSTEM's methods walked: arrivals -/
/-- everything but the reference and the linked list i -/
def tNl (i : Nat) : gTag → Prop := fun t => ¬ t.1 = 9 ∧ ¬ tLL i t
theorem tNl_h {i : Nat} : ¬ tNl i (24, i) := fun h => h.2 (Or.inl rfl)
theorem tNl_p {i : Nat} : ∀ p, p < 6 → ¬ tNl i (25, 8 * i + p) := fun p hp h => h.2 (Or.inr ⟨rfl, by show (8 * i + p) / 8 = i; omega⟩)
theorem tNl_o {i : Nat} {t : gTag} (h : ¬ t.1 = 9) (h1 : ¬ t.1 = 24) (h2 : ¬ t.1 = 25) : tNl i t := ⟨h, fun e => by rcases e with e | e; (rw [e] at h1; exact h1 rfl); exact h2 e.1⟩
theorem tNl_l {i j : Nat} {t : gTag} (h : tLL j t) (hij : j ≠ i) : tNl i t := by
  rcases h with h | ⟨h, h2⟩
  · subst h
    exact ⟨Nat.ne_of_beq_eq_false rfl, fun e => by rcases e with e | e; (exact hij (congrArg Prod.snd e)); exact absurd (show (24 : Nat) = 25 from e.1) (by decide)⟩
  · refine ⟨by omega, fun e => ?_⟩
    rcases e with e | e
    · rw [e] at h; exact absurd (show (24 : Nat) = 25 from h) (by decide)
    · exact hij (h2.symm.trans e.2)
section GT
variable {z : gZ} {S : gS} {EV : gEV} {Q : State → Prop} {M0 : gM} {T T1 : gTag → Prop} {A : gAd} {U : gV} {L : gLL} {k n pc : Nat} {ls : List (Option Value)} {st : List Value} {E : String}
theorem tt_unbase {M1 : gM} (hF : gFr T M0 M1) (hT : ∀ t, T1 t → T t) (kk : gTt z S EV Q T M0 A U k n pc ls st E) : gTt z S EV Q T1 M1 A U k n pc ls st E :=
  fun M h1 h3 => kk M h1 (hF.trans (h3.mono hT))
/-- an iterator over the linked list i: from here the list stays as it is -/
theorem t_itbase {i q N : Nat} {m0 : Int} {ns0 : Nat → Nat} {lr : Value} {u : gTag} (hi : llL U i) (hN : (llN U i).toNat = N)
    (kk : ∀ (M1 : gM) (m : Int) (ns : Nat → Nat), gLn M1 i (A 24 i) N (llF A U i) m ns → gFr T M0 M1 → gTd z S EV Q (tNl i) M1 A U ((q, u, itL m ns lr (A 24 i) N 0) :: L) k n pc ls st) :
    gTd z S EV Q T M0 A U ((q, u, itL m0 ns0 lr (A 24 i) (llN U i).toNat 0) :: (A 24 i, (24, i), .inr (2, [.int (iI m0), .int (iI (((llN U i).toNat : Nat) : Int)), if (llN U i).toNat = 0 then .null else .ref (ns0 0), if (llN U i).toNat = 0 then .null else .ref (ns0 ((llN U i).toNat - 1))])) :: L) k n pc ls st := by
  intro M h1 h2 h3
  subst hN
  obtain ⟨m, ns, G⟩ := h1.2.2 i hi
  have hh := h2 _ (List.mem_cons_of_mem _ (List.mem_cons_self ..))
  have e := Option.some.inj (hh.symm.trans G.2.2.1)
  have e2 := congrArg Prod.snd e
  injection e2 with e3
  have e4 := congrArg Prod.snd e3
  injection e4 with q1 q2
  injection q2 with q2 q3
  injection q3 with q3 q4
  injection q1 with q1
  refine kk M m ns G h3 M h1 (fun x hx => ?_) gFr.rf
  rcases List.mem_cons.mp hx with hx | hx
  · subst hx
    have hq := h2 _ (List.mem_cons_self ..)
    have e9 : itL m ns lr (A 24 i) (llN U i).toNat 0 = itL m0 ns0 lr (A 24 i) (llN U i).toNat 0 := by
      unfold itL
      rw [q1]
      by_cases h0 : 0 < (llN U i).toNat
      · rw [if_pos h0, if_pos h0]
        rw [if_neg (by omega), if_neg (by omega)] at q3
        rw [q3]
      · rw [if_neg h0, if_neg h0]
    rw [e9]
    exact hq
  · exact h2 x (List.mem_cons_of_mem _ (List.mem_cons_of_mem _ hx))
end GT
theorem uBk_5 {W : gV} {b y : Int} {i : Nat} (n : Nat) : uBk W b y n 5 i = W 5 i ∨ uBk W b y n 5 i = y := by
  induction n with
  | zero => exact Or.inl rfl
  | succ n ih =>
    rw [uBk]
    unfold vS
    split
    · exact Or.inr rfl
    · exact ih
theorem uBec_5 {U : gV} {b : Int} {x : Nat} {i : Nat} : uBec U b x 5 i = U 5 i ∨ uBec U b x 5 i = if x = 4 ∨ x = 5 then -1 else b := by
  unfold uBec
  rcases uBk_5 (W := vS U 18 b.toNat (x : Int)) (b := b) (y := if x = 4 ∨ x = 5 then -1 else b) (i := i) (U 23 b.toNat).toNat with h | h
  · exact Or.inl h
  · exact Or.inr h
/-- k wagons of train r came to track p -/
def uAr (W : gV) (r p : Int) : Nat → gV
  | 0 => W
  | k + 1 => if uAr W r p k 5 (W 29 (6 * r + (k : Int)).toNat).toNat < 0 then uPut (vS (uAr W r p k) 3 (W 29 (6 * r + (k : Int)).toNat).toNat p) p (W 29 (6 * r + (k : Int)).toNat) else
    uBec (uPut (vS (uAr W r p k) 3 (W 29 (6 * r + (k : Int)).toNat).toNat p) p (W 29 (6 * r + (k : Int)).toNat)) (uAr W r p k 5 (W 29 (6 * r + (k : Int)).toNat).toNat) 4
theorem uAr_k {W : gV} {r p : Int} {k i : Nat} (h : k ≠ 7) (h6 : k ≠ 6) (h3 : k ≠ 3) (h5 : k ≠ 5) (h8 : k ≠ 18) (n : Nat) : uAr W r p n k i = W k i := by
  induction n with
  | zero => rfl
  | succ n ih =>
    rw [uAr]
    split
    · rw [uPut_k h h6, vS_k h3, ih]
    · rw [uBec_k h8 h5, uPut_k h h6, vS_k h3, ih]
theorem uAr_s0 {W : gV} {r p w b : Int} {k : Nat} (hw : W 29 (6 * r + (k : Int)).toNat = w) (hb : uAr W r p k 5 w.toNat = b) (nb : b < 0) : uPut (vS (uAr W r p k) 3 w.toNat p) p w = uAr W r p (k + 1) := by rw [uAr, hw, hb, if_pos nb]
theorem uAr_s1 {W : gV} {r p w b : Int} {k : Nat} (hw : W 29 (6 * r + (k : Int)).toNat = w) (hb : uAr W r p k 5 w.toNat = b) (nb : ¬ b < 0) : uBec (uPut (vS (uAr W r p k) 3 w.toNat p) p w) b 4 = uAr W r p (k + 1) := by rw [uAr, hw, hb, if_neg nb]
theorem uAr_6 {W : gV} {r p : Int} (n : Nat) : uAr W r p n 6 p.toNat = W 6 p.toNat + n := by
  induction n with
  | zero => show W 6 _ = W 6 _ + 0; omega
  | succ n ih =>
    rw [uAr]
    split
    · rw [uPut, vS_s, vS_k (by decide), ih]; omega
    · rw [uBec_k (by decide) (by decide), uPut, vS_s, vS_k (by decide), ih]; omega
theorem uAr_5 {W : gV} {r p : Int} {i : Nat} (n : Nat) : uAr W r p n 5 i = W 5 i ∨ uAr W r p n 5 i = -1 := by
  induction n with
  | zero => exact Or.inl rfl
  | succ n ih =>
    rw [uAr]
    split
    · exact ih
    · rcases uBec_5 (U := uPut (vS (uAr W r p n) 3 (W 29 (6 * r + (n : Int)).toNat).toNat p) p (W 29 (6 * r + (n : Int)).toNat)) (b := uAr W r p n 5 (W 29 (6 * r + (n : Int)).toNat).toNat) (x := 4) (i := i) with h | h
      · rw [h]; exact ih
      · rw [h]; exact Or.inr rfl
def uArr (U : gV) (r p : Int) : gV := vS (uEv (uAr (vS U 27 r.toNat 1) r p (U 28 r.toNat).toNat) 3 r p 0) 33 0 (uEv (uAr (vS U 27 r.toNat 1) r p (U 28 r.toNat).toNat) 3 r p 0 33 0 + 1)
set_option maxHeartbeats 1000000 in
theorem tc_arriveU (l : Launch) (EV : gEV) {A : gAd} {U : gV} {x t : Int} (hx : inR x) (ht : inR t) (hev : U 33 0 < 64) (hI : uI U) : TC l yX1_arrive cX1_arrive 9 (some .int) 12 30 4000 EV tSys [.ref (A 10 0), .int (iI x), .int (iI t)] A U [] (fun w A9 U9 L9 => (w = some (.int (iI (U 6 (5 * U 26 x.toNat + t).toNat + U 28 x.toNat))) ∧ A9 10 0 = A 10 0 ∧ U9 = uArr U x (5 * U 26 x.toNat + t)) ∧ (0 ≤ x ∧ x < U 25 0) ∧ (0 ≤ t ∧ t ≤ 4) ∧ U 27 x.toNat = 0 ∧ U 6 (5 * U 26 x.toNat + t).toNat + U 28 x.toNat ≤ 6) (fun E => E = cIOB ∧ ¬ (0 ≤ x ∧ x < U 25 0) ∨ E = cIAE ∧ (0 ≤ x ∧ x < U 25 0) ∧ ¬ (0 ≤ t ∧ t ≤ 4) ∨ E = cISE ∧ (0 ≤ x ∧ x < U 25 0) ∧ (0 ≤ t ∧ t ≤ 4) ∧ ¬ (U 27 x.toNat = 0 ∧ U 6 (5 * U 26 x.toNat + t).toNat + U 28 x.toNat ≤ 6)) := by
  refine t_body tbX1_arrive tkX1_arrive (by decide) (by intro v hv; simp only [List.mem_cons, List.not_mem_nil, or_false] at hv; rcases hv with rfl | rfl | rfl <;> rfl) (Nat.le_of_ble_eq_true rfl) (fun M0 z Q X hl hR hQ hE => ?_)
  subst hl
  have hu := uIs hI
  unfold uS at hu
  have loop : ∀ (M1 : gM) (m9 : Int) (ns : Nat → Nat), gLn M1 (15 + x.toNat) (A 24 (15 + x.toNat)) (U 28 x.toNat).toNat (llF A (vS U 27 x.toNat 1) (15 + x.toNat)) m9 ns → gFr tSys M0 M1 → ((0 ≤ x ∧ x < U 25 0) ∧ (0 ≤ t ∧ t ≤ 4) ∧ U 27 x.toNat = 0 ∧ U 6 (5 * U 26 x.toNat + t).toNat + U 28 x.toNat ≤ 6 ∧ (0 ≤ U 26 x.toNat ∧ U 26 x.toNat ≤ 2) ∧ (0 ≤ U 28 x.toNat ∧ U 28 x.toNat ≤ 6) ∧ 0 ≤ U 6 (5 * U 26 x.toNat + t).toNat) → ∀ (q1 j k : Nat), (k : Int) + j = U 28 x.toNat → ∀ kc kn : Nat, kc + 2 * j ≤ 20 → kn + 7 * j ≤ 90 → ∀ lr : Value, gTd z (cX1_arrive, yX1_arrive.cls, 9, (some .int), tbX1_arrive, yX1_arrive.name) EV Q (tNl (15 + x.toNat)) M1 A (uAr (vS U 27 x.toNat 1) x (5 * U 26 x.toNat + t) k) [(q1, (75, 0), itL m9 ns lr (A 24 (15 + x.toNat)) (U 28 x.toNat).toNat k)] kc kn 100 [some (.ref (A 10 0)), some (.int (iI x)), some (.int (iI t)), some (.ref (A 15 (x.toNat))), some (.int (iI (5 * U 26 x.toNat + t))), some (.ref (A 24 ((5 * U 26 x.toNat + t).toNat))), some (.ref q1), none, none] [] := by
    intro M1 m9 ns G hF1 hB q1 j
    induction j with
    | zero =>
      intro k hk kc kn hkc hkn lr
      have e41 : (uAr (vS U 27 x.toNat 1) x (5 * U 26 x.toNat + t) k) 41 0 = U 41 0 := uAr_k (by decide) (by decide) (by decide) (by decide) (by decide) k
      refine t_run X 1 (pc1 := 102) (ls1 := [_, _, _, _, _, _, _, _, _]) (st1 := [_]) rfl ?_
      refine t_callFM X [0] [] rfl mX1_112_17 (tm_llhas z.2.1 EV (k := k) G tNl_h tNl_p (by omega)) (fun M _ h => ⟨_, _, h.at (i := 0) rfl⟩) rfl rfl (fun _ h => h.elim) (fun _ _ h => h) rfl rfl (Nat.le_of_ble_eq_true rfl) (gFit.of hR (by decide) (by omega) (by omega)) (fun _ h => h.elim) (fun v9 A9 U9 L9 h9 => ?_)
      obtain ⟨rfl, h7, h8, rfl⟩ := h9
      obtain rfl := h7.symm
      obtain rfl := h8.symm
      refine t_eq (st' := [.int (iI (bI (((k : Nat) : Int) < (((U 28 x.toNat).toNat : Nat) : Int))))]) rfl rfl ?_
      refine t_L (L' := [(q1, (75, 0), itL m9 ns lr (A 24 (15 + x.toNat)) (U 28 x.toNat).toNat k)]) rfl ?_
      refine t_br X (pc1 := 164) (st1 := []) rfl (fun b9 => ?_) (fun b9 => ?_)
      · have c107 : ¬ (((k : Nat) : Int) < (((U 28 x.toNat).toNat : Nat) : Int)) := bI_f b9
        have e9 : k = (U 28 x.toNat).toNat := by omega
        subst e9
        refine t_sub [] rfl ?_
        refine t_unbase hF1 (fun _ h => h.1) ?_
        have g46 : (uAr (vS U 27 x.toNat 1) x (5 * U 26 x.toNat + t) (U 28 x.toNat).toNat) 46 0 = U 46 0 := uAr_k (by decide) (by decide) (by decide) (by decide) (by decide) _
        have g33 : (uAr (vS U 27 x.toNat 1) x (5 * U 26 x.toNat + t) (U 28 x.toNat).toNat) 33 0 = U 33 0 := uAr_k (by decide) (by decide) (by decide) (by decide) (by decide) _
        have g46n := g46
        refine t_run X 1 (pc1 := 165) (ls1 := [_, _, _, _, _, _, _, _, _]) (st1 := [_]) rfl ?_
        refine t_get X (10, 0) (v := .ref (A 30 5)) rfl fX1_44 sC_10 rfl ?_
        refine t_new X (16, (U 46 0).toNat) rfl nX1_349 (rc hR (by omega)) (rs hR (by omega)) (fun q1 => ?_)
        refine t_L (L' := [(q1, (16, (U 46 0).toNat), .inr (20, [.int (iI 0), .int (iI 0)]))]) rfl ?_
        refine t_run X 3 (pc1 := 175) (ls1 := [_, _, _, _, _, _, _, _, _]) (st1 := [_, _, _, _, _]) rfl ?_
        refine t_callI X [0] [] rfl mX1_351 (TC.ofJ (jc_arrived_init z.2.1 EV (a := q1) (t := (16, (U 46 0).toNat)) (x := x) (y := (5 * U 26 x.toNat + t))) (fun _ _ _ => trivial) (fun t9 h => h ▸ tDead_c (by decide) (if_neg (by rw [g46]; show ¬ ((U 46 0).toNat : Int) < U 46 0; omega)))) rfl rfl (fun _ h => by rw [h]; exact Nat.ne_of_beq_eq_false rfl) (fun _ h => by cases h) rfl rfl (Nat.le_of_ble_eq_true rfl) (gFit.of hR (by decide) (by omega) (by omega)) (fun _ h => h.elim) (fun v9 A9 U9 L9 h9 => ?_)
        obtain ⟨⟨rfl, rfl⟩, h7, h8⟩ := h9
        obtain rfl := h7.symm
        subst h8
        refine t_eq (st' := [.ref q1, .ref (A 30 5)]) rfl rfl ?_
        refine t_L (L' := [(q1, (16, (U 46 0).toNat), .inr (20, [.int (iI x), .int (iI (5 * U 26 x.toNat + t))]))]) rfl ?_
        refine t_take (A' := (aS A 16 (U 46 0).toNat q1)) (U' := (uEv (uAr (vS U 27 x.toNat 1) x (5 * U 26 x.toNat + t) (U 28 x.toNat).toNat) 3 x (5 * U 26 x.toNat + t) 0)) (L' := []) (fun M hD hL => ⟨by rw [← g46n]; exact hD.newE (k := 3) (x := x) (y := (5 * U 26 x.toNat + t)) (w := 0) (by omega) (by omega) (by rw [g46n]; exact hL.at (i := 0) rfl), fun x hx => nomatch hx⟩) ?_
        have e46 : (uEv (uAr (vS U 27 x.toNat 1) x (5 * U 26 x.toNat + t) (U 28 x.toNat).toNat) 3 x (5 * U 26 x.toNat + t) 0) 46 0 = U 46 0 + 1 := by show vS _ 46 0 ((uAr (vS U 27 x.toNat 1) x (5 * U 26 x.toNat + t) (U 28 x.toNat).toNat) 46 0 + 1) 46 0 = _; rw [vS_s]; omega
        have e33 : (uEv (uAr (vS U 27 x.toNat 1) x (5 * U 26 x.toNat + t) (U 28 x.toNat).toNat) 3 x (5 * U 26 x.toNat + t) 0) 33 0 = U 46 0 := by show (uAr (vS U 27 x.toNat 1) x (5 * U 26 x.toNat + t) (U 28 x.toNat).toNat) 33 0 = _; omega
        refine t_callV X [] [] rfl mX1_50 (tc_add5 z.2.1 EV (A := (aS A 16 (U 46 0).toNat q1)) (U := (uEv (uAr (vS U 27 x.toNat 1) x (5 * U 26 x.toNat + t) (U 28 x.toNat).toNat) 3 x (5 * U 26 x.toNat + t) 0)) (by show 0 ≤ (uEv (uAr (vS U 27 x.toNat 1) x (5 * U 26 x.toNat + t) (U 28 x.toNat).toNat) 3 x (5 * U 26 x.toNat + t) 0) 33 0 ∧ (uEv (uAr (vS U 27 x.toNat 1) x (5 * U 26 x.toNat + t) (U 28 x.toNat).toNat) 3 x (5 * U 26 x.toNat + t) 0) 33 0 ≤ 72; omega) (by omega) (by rw [e33]; exact aS_s)) (fun M h _ => gAL_at (h.2.1 5 (by unfold alL; omega))) rfl rfl (fun t h => by rcases h with h | ⟨h, -⟩; (rw [h]; exact Nat.ne_of_beq_eq_false rfl); show ¬ t.1 = 9; omega) (fun _ h => by cases h) rfl rfl (Nat.le_of_ble_eq_true rfl) (gFit.of hR (by decide) (by omega) (by omega)) (fun _ h => h.elim) (fun v9 A9 U9 L9 h9 => ?_)
        obtain ⟨rfl, h7, h8, rfl⟩ := h9
        subst h7
        subst h8
        refine t_eq (st' := [.int (iI 1)]) rfl rfl ?_
        refine t_run X 2 (pc1 := 184) (ls1 := [_, _, _, _, _, _, _, _, _]) (st1 := [_]) rfl ?_
        refine t_callV X [] [] rfl mX1_78 (tc_llsizeN z.2.1 EV (i := (5 * U 26 x.toNat + t).toNat) (by unfold llL; omega) (n := U 6 (5 * U 26 x.toNat + t).toNat + U 28 x.toNat) ((llN_t (by omega)).trans (by show (uAr (vS U 27 x.toNat 1) x (5 * U 26 x.toNat + t) (U 28 x.toNat).toNat) 6 (5 * U 26 x.toNat + t).toNat = _; rw [uAr_6]; show U 6 _ + _ = _; omega)) (by omega)) (fun M h _ => gLk_at (h.2.2 _ (by unfold llL; omega))) rfl rfl (fun _ h => h.elim) (fun _ _ h => h) rfl rfl (Nat.le_of_ble_eq_true rfl) (gFit.of hR (by decide) (by omega) (by omega)) (fun _ h => h.elim) (fun v9 A9 U9 L9 h9 => ?_)
        obtain ⟨rfl, h7, h8, rfl⟩ := h9
        obtain rfl := h7.symm
        obtain rfl := h8.symm
        refine t_eq (st' := [.int (iI (U 6 (5 * U 26 x.toNat + t).toNat + U 28 x.toNat))]) rfl rfl ?_
        exact t_iret X hQ rfl rfl (by omega) (by omega) ⟨⟨rfl, rfl, rfl⟩, by omega⟩
      · have c107 : ((k : Nat) : Int) < (((U 28 x.toNat).toNat : Nat) : Int) := bI_t b9
        exact absurd c107 (by omega)
    | succ j ih =>
      intro k hk kc kn hkc hkn lr
      have e41 : (uAr (vS U 27 x.toNat 1) x (5 * U 26 x.toNat + t) k) 41 0 = U 41 0 := uAr_k (by decide) (by decide) (by decide) (by decide) (by decide) k
      have e42 : (uAr (vS U 27 x.toNat 1) x (5 * U 26 x.toNat + t) k) 42 0 = U 42 0 := uAr_k (by decide) (by decide) (by decide) (by decide) (by decide) k
      have e23 : ∀ i, (uAr (vS U 27 x.toNat 1) x (5 * U 26 x.toNat + t) k) 23 i = U 23 i := fun i => uAr_k (by decide) (by decide) (by decide) (by decide) (by decide) k
      have e24 : ∀ i, (uAr (vS U 27 x.toNat 1) x (5 * U 26 x.toNat + t) k) 24 i = U 24 i := fun i => uAr_k (by decide) (by decide) (by decide) (by decide) (by decide) k
      have e6p : (uAr (vS U 27 x.toNat 1) x (5 * U 26 x.toNat + t) k) 6 (5 * U 26 x.toNat + t).toNat = U 6 (5 * U 26 x.toNat + t).toNat + k := uAr_6 k
      have h29 := uI29 hI (a := x) (k := (k : Int)) (by omega) (by omega) (by omega) (by omega)
      have h5w := uI5 hI (j := (U 29 (6 * x + (k : Int)).toNat)) (by omega) (by omega)
      have h5a := uAr_5 (W := (vS U 27 x.toNat 1)) (r := x) (p := (5 * U 26 x.toNat + t)) (i := (U 29 (6 * x + (k : Int)).toNat).toNat) k
      obtain ⟨bk, hbk⟩ : ∃ bk : Int, (uAr (vS U 27 x.toNat 1) x (5 * U 26 x.toNat + t) k) 5 (U 29 (6 * x + (k : Int)).toNat).toNat = bk := ⟨_, rfl⟩
      have h5b : bk = U 5 (U 29 (6 * x + (k : Int)).toNat).toNat ∨ bk = -1 := by rw [hbk] at h5a; exact h5a
      have eF : llF A (vS U 27 x.toNat 1) (15 + x.toNat) k = A 11 (U 29 (6 * x + (k : Int)).toNat).toNat := by
        rw [llF_r, show 6 * x.toNat + k = (6 * x + (k : Int)).toNat by omega]; rfl
      refine t_run X 1 (pc1 := 102) (ls1 := [_, _, _, _, _, _, _, _, _]) (st1 := [_]) rfl ?_
      refine t_callFM X [0] [] rfl mX1_112_17 (tm_llhas z.2.1 EV (k := k) G tNl_h tNl_p (by omega)) (fun M _ h => ⟨_, _, h.at (i := 0) rfl⟩) rfl rfl (fun _ h => h.elim) (fun _ _ h => h) rfl rfl (Nat.le_of_ble_eq_true rfl) (gFit.of hR (by decide) (by omega) (by omega)) (fun _ h => h.elim) (fun v9 A9 U9 L9 h9 => ?_)
      obtain ⟨rfl, h7, h8, rfl⟩ := h9
      obtain rfl := h7.symm
      obtain rfl := h8.symm
      refine t_eq (st' := [.int (iI (bI (((k : Nat) : Int) < (((U 28 x.toNat).toNat : Nat) : Int))))]) rfl rfl ?_
      refine t_L (L' := [(q1, (75, 0), itL m9 ns lr (A 24 (15 + x.toNat)) (U 28 x.toNat).toNat k)]) rfl ?_
      refine t_br X (pc1 := 164) (st1 := []) rfl (fun b9 => ?_) (fun b9 => ?_)
      · have c107 : ¬ (((k : Nat) : Int) < (((U 28 x.toNat).toNat : Nat) : Int)) := bI_f b9
        exact absurd c107 (by omega)
      · have c107 : ((k : Nat) : Int) < (((U 28 x.toNat).toNat : Nat) : Int) := bI_t b9
        refine t_run X 1 (pc1 := 112) (ls1 := [_, _, _, _, _, _, _, _, _]) (st1 := [_]) rfl ?_
        refine t_callFM X [0] [] rfl mX1_117_17 (tm_llnext z.2.1 EV (u := (75, 0)) (k := k) (by decide) G tNl_h tNl_p (by omega)) (fun M _ h => ⟨_, _, h.at (i := 0) rfl⟩) rfl rfl (fun t9 h => by rw [h]; exact tNl_o (by decide) (by decide) (by decide)) (fun _ h => by cases h) rfl rfl (Nat.le_of_ble_eq_true rfl) (gFit.of hR (by decide) (by omega) (by omega)) (fun _ h => h.elim) (fun v9 A9 U9 L9 h9 => ?_)
        obtain ⟨rfl, h7, h8, rfl⟩ := h9
        obtain rfl := h7.symm
        obtain rfl := h8.symm
        refine t_eq (st' := [.ref (A 11 ((U 29 (6 * x + (k : Int)).toNat).toNat))]) rfl (by rw [eF]; rfl) ?_
        refine t_L (L' := [(q1, (75, 0), itL m9 ns (.ref (ns k)) (A 24 (15 + x.toNat)) (U 28 x.toNat).toNat (k + 1))]) rfl ?_
        refine t_cast X rfl kX1_69_7 (fun M h _ => ⟨_, _, h.1 (11, (U 29 (6 * x + (k : Int)).toNat).toNat) _ (sC_11 (by rw [e41]; omega))⟩) ?_
        refine t_run X 3 (pc1 := 126) (ls1 := [_, _, _, _, _, _, _, _, _]) (st1 := [_, _]) rfl ?_
        refine t_pu3 X (x := (5 * U 26 x.toNat + t)) rfl fX1_185 (by rw [e41]; omega) (tNl_o (Nat.ne_of_beq_eq_false rfl) (Nat.ne_of_beq_eq_false rfl) (Nat.ne_of_beq_eq_false rfl)) (by intro x9 hx; obtain rfl := List.mem_singleton.mp (show x9 ∈ [_] from hx); simp) ?_
        refine t_run X 2 (pc1 := 133) (ls1 := [_, _, _, _, _, _, _, _, _]) (st1 := [_, _]) rfl ?_
        refine t_callV X [] [0] rfl mX1_164 (tc_put z.2.1 EV (p := (5 * U 26 x.toNat + t)) (w := (U 29 (6 * x + (k : Int)).toNat)) (by omega) (by show 0 ≤ (uAr (vS U 27 x.toNat 1) x (5 * U 26 x.toNat + t) k) 6 _ ∧ (uAr (vS U 27 x.toNat 1) x (5 * U 26 x.toNat + t) k) 6 _ < 6; rw [e6p]; omega) rfl) (fun M h _ => gLk_at (h.2.2 _ (Or.inl (by omega)))) rfl rfl (fun t9 h => tNl_l h (by omega)) (by intro x9 hx; obtain rfl := List.mem_singleton.mp (show x9 ∈ [_] from hx); exact nLL (Nat.le_of_ble_eq_true rfl)) rfl rfl (Nat.le_of_ble_eq_true rfl) (gFit.of hR (by decide) (by omega) (by omega)) (fun _ h => h.elim) (fun v9 A9 U9 L9 h9 => ?_)
        obtain ⟨rfl, h7, h8, rfl⟩ := h9
        obtain rfl := h7.symm
        subst h8
        refine t_eq (st' := []) rfl rfl ?_
        refine t_L (L' := [(q1, (75, 0), itL m9 ns (.ref (ns k)) (A 24 (15 + x.toNat)) (U 28 x.toNat).toNat (k + 1))]) rfl ?_
        refine t_run X 1 (pc1 := 138) (ls1 := [_, _, _, _, _, _, _, _, _]) (st1 := [_]) rfl ?_
        by_cases nb : bk < 0
        · refine t_get X (11, (U 29 (6 * x + (k : Int)).toNat).toNat) (v := .null) rfl fX1_89 (sC_11 (by show _ < (uAr (vS U 27 x.toNat 1) x (5 * U 26 x.toNat + t) k) 41 0; rw [e41]; omega)) (by show some (rfA A 12 ((uPut (vS (uAr (vS U 27 x.toNat 1) x (5 * U 26 x.toNat + t) k) 3 (U 29 (6 * x + (k : Int)).toNat).toNat (5 * U 26 x.toNat + t)) (5 * U 26 x.toNat + t) (U 29 (6 * x + (k : Int)).toNat)) 5 _)) = _; rw [show (uPut (vS (uAr (vS U 27 x.toNat 1) x (5 * U 26 x.toNat + t) k) 3 (U 29 (6 * x + (k : Int)).toNat).toNat (5 * U 26 x.toNat + t)) (5 * U 26 x.toNat + t) (U 29 (6 * x + (k : Int)).toNat)) 5 (U 29 (6 * x + (k : Int)).toNat).toNat = bk from hbk, rfA_0 nb]) ?_
          refine t_run X 5 (pc1 := 100) (ls1 := [_, _, _, _, _, _, _, _, _]) (st1 := []) rfl ?_
          refine t_U (U' := uAr (vS U 27 x.toNat 1) x (5 * U 26 x.toNat + t) (k + 1)) (uAr_s0 rfl hbk nb) ?_
          exact t_forget [true, true, true, true, true, true, true, false, false] rfl (ih (k + 1) (by omega) (kc + 1) (kn + 3) (by omega) (by omega) _)
        · refine t_get X (11, (U 29 (6 * x + (k : Int)).toNat).toNat) (v := .ref (A 12 (bk.toNat))) rfl fX1_89 (sC_11 (by show _ < (uAr (vS U 27 x.toNat 1) x (5 * U 26 x.toNat + t) k) 41 0; rw [e41]; omega)) (by show some (rfA A 12 ((uPut (vS (uAr (vS U 27 x.toNat 1) x (5 * U 26 x.toNat + t) k) 3 (U 29 (6 * x + (k : Int)).toNat).toNat (5 * U 26 x.toNat + t)) (5 * U 26 x.toNat + t) (U 29 (6 * x + (k : Int)).toNat)) 5 _)) = _; rw [show (uPut (vS (uAr (vS U 27 x.toNat 1) x (5 * U 26 x.toNat + t) k) 3 (U 29 (6 * x + (k : Int)).toNat).toNat (5 * U 26 x.toNat + t)) (5 * U 26 x.toNat + t) (U 29 (6 * x + (k : Int)).toNat)) 5 (U 29 (6 * x + (k : Int)).toNat).toNat = bk from hbk, rfA_1 nb]) ?_
          refine t_run X 1 (pc1 := 148) (ls1 := [_, _, _, _, _, _, _, _, _]) (st1 := []) rfl ?_
          have bb := uIb hI (j := bk) (by omega) (by omega)
          refine t_run X 1 (pc1 := 150) (ls1 := [_, _, _, _, _, _, _, _, _]) (st1 := [_]) rfl ?_
          refine t_get X (11, (U 29 (6 * x + (k : Int)).toNat).toNat) (v := .ref (A 12 (bk.toNat))) rfl fX1_89 (sC_11 (by show _ < (uAr (vS U 27 x.toNat 1) x (5 * U 26 x.toNat + t) k) 41 0; rw [e41]; omega)) (by show some (rfA A 12 ((uPut (vS (uAr (vS U 27 x.toNat 1) x (5 * U 26 x.toNat + t) k) 3 (U 29 (6 * x + (k : Int)).toNat).toNat (5 * U 26 x.toNat + t)) (5 * U 26 x.toNat + t) (U 29 (6 * x + (k : Int)).toNat)) 5 _)) = _; rw [show (uPut (vS (uAr (vS U 27 x.toNat 1) x (5 * U 26 x.toNat + t) k) 3 (U 29 (6 * x + (k : Int)).toNat).toNat (5 * U 26 x.toNat + t)) (5 * U 26 x.toNat + t) (U 29 (6 * x + (k : Int)).toNat)) 5 (U 29 (6 * x + (k : Int)).toNat).toNat = bk from hbk, rfA_1 nb]) ?_
          refine t_enum X 4 (by decide) rfl q2323 ?_
          refine t_callV X [] [0] rfl mX1_258 (tc_become z.2.1 EV (b := bk) (x := 4) (by show 0 ≤ bk ∧ bk < (uAr (vS U 27 x.toNat 1) x (5 * U 26 x.toNat + t) k) 42 0; rw [e42]; omega) (by show (uAr (vS U 27 x.toNat 1) x (5 * U 26 x.toNat + t) k) 42 0 ≤ 40; rw [e42]; omega) (by decide) (by show 0 ≤ (uAr (vS U 27 x.toNat 1) x (5 * U 26 x.toNat + t) k) 23 bk.toNat ∧ (uAr (vS U 27 x.toNat 1) x (5 * U 26 x.toNat + t) k) 23 bk.toNat ≤ 30; rw [e23]; omega) (fun k9 g0 g1 => by have h2 : k9 < (uAr (vS U 27 x.toNat 1) x (5 * U 26 x.toNat + t) k) 23 bk.toNat := g1; rw [e23] at h2; show 0 ≤ (uAr (vS U 27 x.toNat 1) x (5 * U 26 x.toNat + t) k) 24 _ ∧ (uAr (vS U 27 x.toNat 1) x (5 * U 26 x.toNat + t) k) 24 _ < (uAr (vS U 27 x.toNat 1) x (5 * U 26 x.toNat + t) k) 41 0; rw [e24, e41]; exact uR24 hI (b := bk) (by omega) (by omega) k9 g0 h2)) (fun M h _ => ⟨_, _, h.1 (12, bk.toNat) _ (sC_12 (by show _ < (uAr (vS U 27 x.toNat 1) x (5 * U 26 x.toNat + t) k) 42 0; rw [e42]; omega))⟩) rfl rfl (fun t9 h => by rcases h with h | h | h; (exact tNl_o (by omega) (by omega) (by omega)); (exact tNl_o (by omega) (by omega) (by omega)); subst h; exact tNl_o (Nat.ne_of_beq_eq_false rfl) (Nat.ne_of_beq_eq_false rfl) (Nat.ne_of_beq_eq_false rfl)) (by intro x9 hx; obtain rfl := List.mem_singleton.mp (show x9 ∈ [_] from hx); intro h; rcases h with h | h | h; exact absurd (show (75 : Nat) = 11 from h) (by decide); exact absurd (show (75 : Nat) = 12 from h) (by decide); exact absurd (show ((75 : Nat), (0 : Nat)) = (71, 0) from h) (by decide)) rfl rfl (Nat.le_of_ble_eq_true rfl) (gFit.of hR (by decide) (by omega) (by omega)) (fun _ h => h.elim) (fun v9 A9 U9 L9 h9 => ?_)
          obtain ⟨rfl, h7, h8, -⟩ := h9
          obtain rfl := h7.symm
          subst h8
          refine t_drop ?_
          refine t_eq (st' := [.int (iI ((uPut (vS (uAr (vS U 27 x.toNat 1) x (5 * U 26 x.toNat + t) k) 3 (U 29 (6 * x + (k : Int)).toNat).toNat (5 * U 26 x.toNat + t)) (5 * U 26 x.toNat + t) (U 29 (6 * x + (k : Int)).toNat)) 23 bk.toNat))]) rfl rfl ?_
          refine t_L (L' := [(q1, (75, 0), itL m9 ns (.ref (ns k)) (A 24 (15 + x.toNat)) (U 28 x.toNat).toNat (k + 1))]) rfl ?_
          refine t_run X 2 (pc1 := 100) (ls1 := [_, _, _, _, _, _, _, _, _]) (st1 := []) rfl ?_
          refine t_U (U' := uAr (vS U 27 x.toNat 1) x (5 * U 26 x.toNat + t) (k + 1)) (uAr_s1 rfl hbk nb) ?_
          exact t_forget [true, true, true, true, true, true, true, false, false] rfl (ih (k + 1) (by omega) (kc + 1 + 1) (kn + 3 + 4) (by omega) (by omega) _)
  refine t_eq (ls' := [some (.ref (A 10 0)), some (.int (iI x)), some (.int (iI t)), none, none, none, none, none, none]) (st' := []) rfl rfl ?_
  refine t_run X 2 (pc1 := 2) (ls1 := [_, _, _, _, _, _, _, _, _]) (st1 := [_, _]) rfl ?_
  refine t_get X (10, 0) (v := .ref (A 30 4)) rfl fX1_41 sC_10 rfl ?_
  refine t_callV X [] [] rfl mX1_146 (tc_alsize z.2.1 EV (i := 4) (by unfold alL; omega) (by show 0 ≤ (U 25 0); omega)) (fun M h _ => gAL_at (h.2.1 4 (by unfold alL; omega))) rfl rfl (fun _ h => h.elim) (fun _ _ h => h) rfl rfl (Nat.le_of_ble_eq_true rfl) (gFit.of hR (by decide) (Nat.le_of_ble_eq_true rfl) (Nat.le_of_ble_eq_true rfl)) (fun _ h => h.elim) (fun v9 A9 U9 L9 h9 => ?_)
  obtain ⟨rfl, h7, h8, rfl⟩ := h9
  obtain rfl := h7.symm
  obtain rfl := h8.symm
  refine t_eq (st' := [.int (iI (U 25 0)), .int (iI x)]) rfl rfl ?_
  refine t_callS X [] [] rfl mX1_147 (tc_there z.2.1 EV (v := x) (m := (U 25 0)) (by omega) (by omega)) rfl rfl (fun _ h => h.elim) (fun _ h => by cases h) rfl rfl (Nat.le_of_ble_eq_true rfl) (gFit.of hR (by decide) (Nat.le_of_ble_eq_true rfl) (Nat.le_of_ble_eq_true rfl)) (fun E h => t_out X hQ hE (by omega) (by omega) (Or.inl ⟨h.1, by have h2 := h.2; omega⟩)) (fun v9 A9 U9 L9 h9 => ?_)
  obtain ⟨⟨rfl, h7, h8, rfl⟩, l8⟩ := h9
  obtain rfl := h7.symm
  obtain rfl := h8.symm
  refine t_eq (st' := []) rfl rfl ?_
  have bt := uIt hI (j := x) (by omega) (by omega)
  refine t_run X 3 (pc1 := 14) (ls1 := [_, _, _, _, _, _, _, _, _]) (st1 := [_, _, _]) rfl ?_
  refine t_callS X [] [] rfl mX1_139 (tc_limited z.2.1 EV (v := t) (lo := 0) (hi := 4) (by omega) (by omega) (by omega)) rfl rfl (fun _ h => h.elim) (fun _ h => by cases h) rfl rfl (Nat.le_of_ble_eq_true rfl) (gFit.of hR (by decide) (Nat.le_of_ble_eq_true rfl) (Nat.le_of_ble_eq_true rfl)) (fun E h => t_out X hQ hE (by omega) (by omega) (Or.inr (Or.inl ⟨h.1, by omega, by have h2 := h.2; omega⟩))) (fun v9 A9 U9 L9 h9 => ?_)
  obtain ⟨⟨rfl, h7, h8, rfl⟩, l14⟩ := h9
  obtain rfl := h7.symm
  obtain rfl := h8.symm
  refine t_eq (st' := []) rfl rfl ?_
  refine t_run X 1 (pc1 := 18) (ls1 := [_, _, _, _, _, _, _, _, _]) (st1 := [_]) rfl ?_
  refine t_get X (10, 0) (v := .ref (A 30 4)) rfl fX1_41 sC_10 rfl ?_
  refine t_run X 1 (pc1 := 22) (ls1 := [_, _, _, _, _, _, _, _, _]) (st1 := [_, _]) rfl ?_
  refine t_callV X [] [] rfl mX1_74 (tc_algetN z.2.1 EV (i := 4) (n := U 25 0) (by unfold alL; omega) rfl (by omega) (x := x) (by omega) rfl) (fun M h _ => gAL_at (h.2.1 4 (by unfold alL; omega))) rfl rfl (fun _ h => h.elim) (fun _ _ h => h) rfl rfl (Nat.le_of_ble_eq_true rfl) (gFit.of hR (by decide) (Nat.le_of_ble_eq_true rfl) (Nat.le_of_ble_eq_true rfl)) (fun _ h => h.elim) (fun v9 A9 U9 L9 h9 => ?_)
  obtain ⟨rfl, h7, h8, rfl⟩ := h9
  obtain rfl := h7.symm
  obtain rfl := h8.symm
  refine t_eq (st' := [.ref (A 15 (x.toNat))]) rfl rfl ?_
  refine t_cast X rfl kX1_321_18 (fun M h _ => ⟨_, _, h.1 (15, x.toNat) _ (sC_15 (by omega))⟩) ?_
  refine t_run X 3 (pc1 := 31) (ls1 := [_, _, _, _, _, _, _, _, _]) (st1 := [_, _]) rfl ?_
  refine t_get X (15, (x.toNat)) (v := .int (iI (U 26 x.toNat))) rfl fX1_337 (sC_15 (by first | omega | (show _ < U 45 0; omega) | (simp [vS]; omega))) rfl ?_
  refine t_run X 4 (pc1 := 39) (ls1 := [_, _, _, _, _, _, _, _, _]) (st1 := []) rfl ?_
  refine t_eq (ls' := [some (.ref (A 10 0)), some (.int (iI x)), some (.int (iI t)), some (.ref (A 15 (x.toNat))), some (.int (iI ((5 * (U 26 x.toNat)) + t))), none, none, none, none]) (st' := []) (by first | rfl | (simp only [iI_add, iI_sub, iI_mul, iI_neg]; done) | (simp only [iI_add, iI_sub, iI_mul, iI_neg] <;> rfl)) (by first | rfl | (simp only [iI_add, iI_sub, iI_mul, iI_neg]; done) | (simp only [iI_add, iI_sub, iI_mul, iI_neg] <;> rfl)) ?_
  have b6 := uI6 hI (j := (5 * U 26 x.toNat + t)) (by omega) (by omega)
  refine t_run X 1 (pc1 := 40) (ls1 := [_, _, _, _, _, _, _, _, _]) (st1 := [_]) rfl ?_
  refine t_get X (10, 0) (v := .ref (A 30 0)) rfl fX1_10 sC_10 rfl ?_
  refine t_run X 1 (pc1 := 45) (ls1 := [_, _, _, _, _, _, _, _, _]) (st1 := [_, _]) rfl ?_
  refine t_callV X [] [] rfl mX1_74 (tc_algetN z.2.1 EV (i := 0) (n := 15) (by unfold alL; omega) rfl (by omega) (x := (5 * U 26 x.toNat + t)) (by omega) rfl) (fun M h _ => gAL_at (h.2.1 0 (by unfold alL; omega))) rfl rfl (fun _ h => h.elim) (fun _ _ h => h) rfl rfl (Nat.le_of_ble_eq_true rfl) (gFit.of hR (by decide) (Nat.le_of_ble_eq_true rfl) (Nat.le_of_ble_eq_true rfl)) (fun _ h => h.elim) (fun v9 A9 U9 L9 h9 => ?_)
  obtain ⟨rfl, h7, h8, rfl⟩ := h9
  obtain rfl := h7.symm
  obtain rfl := h8.symm
  refine t_eq (st' := [.ref (A 24 ((5 * U 26 x.toNat + t).toNat))]) rfl rfl ?_
  refine t_cast X rfl kX1_47_2 (fun M h _ => gLk_at (h.2.2 (5 * U 26 x.toNat + t).toNat (by unfold llL; omega))) ?_
  refine t_run X 2 (pc1 := 54) (ls1 := [_, _, _, _, _, _, _, _, _]) (st1 := [_]) rfl ?_
  refine t_get X (15, (x.toNat)) (v := .int (iI (U 27 x.toNat))) rfl fX1_340 (sC_15 (by first | omega | (show _ < U 45 0; omega) | (simp [vS]; omega))) rfl ?_
  refine t_br X (pc1 := 82) (st1 := []) rfl (fun b9 => ?_) (fun b9 => ?_)
  · have c57 : ¬ (U 27 x.toNat) = 0 := cNq b9 (by omega) (by omega)
    refine t_run X 1 (pc1 := 83) (ls1 := [_, _, _, _, _, _, _, _, _]) (st1 := [_]) rfl ?_
    refine t_eq (st' := [.int (iI (bI (False)))]) rfl rfl ?_
    refine t_callS X [] [] rfl mX1_154 (tc_allowed z.2.1 EV (False)) rfl rfl (fun _ h => h.elim) (fun _ _ h => h) rfl rfl (Nat.le_of_ble_eq_true rfl) (gFit.of hR (by decide) (Nat.le_of_ble_eq_true rfl) (Nat.le_of_ble_eq_true rfl)) (fun E h => t_out X hQ hE (by omega) (by omega) (Or.inr (Or.inr ⟨h.1, by omega, by omega, by omega⟩))) (fun v9 A9 U9 L9 h9 => ?_)
    exact h9.2.elim
  · have c57 : (U 27 x.toNat) = 0 := cEq b9 (by omega) (by omega)
    refine t_run X 1 (pc1 := 62) (ls1 := [_, _, _, _, _, _, _, _, _]) (st1 := [_]) rfl ?_
    refine t_callV X [] [] rfl mX1_78 (tc_llsizeN z.2.1 EV (i := (5 * U 26 x.toNat + t).toNat) (by unfold llL; omega) (n := U 6 (5 * U 26 x.toNat + t).toNat) (llN_t (by omega)) (by omega)) (fun M h _ => gLk_at (h.2.2 ((5 * U 26 x.toNat + t).toNat) (by unfold llL; first | omega | (show _ ∨ _ < U 45 0; omega)))) rfl rfl (fun _ h => h.elim) (fun _ _ h => h) rfl rfl (Nat.le_of_ble_eq_true rfl) (gFit.of hR (by decide) (Nat.le_of_ble_eq_true rfl) (Nat.le_of_ble_eq_true rfl)) (fun _ h => h.elim) (fun v9 A9 U9 L9 h9 => ?_)
    obtain ⟨rfl, h7, h8, rfl⟩ := h9
    obtain rfl := h7.symm
    obtain rfl := h8.symm
    refine t_eq (st' := [.int (iI (U 6 (5 * U 26 x.toNat + t).toNat))]) rfl rfl ?_
    refine t_run X 1 (pc1 := 66) (ls1 := [_, _, _, _, _, _, _, _, _]) (st1 := [_, _]) rfl ?_
    refine t_get X (15, (x.toNat)) (v := .ref (A 24 (15 + x.toNat))) rfl fX1_343 (sC_15 (by first | omega | (show _ < U 45 0; omega) | (simp [vS]; omega))) rfl ?_
    refine t_callV X [] [] rfl mX1_78 (tc_llsizeN z.2.1 EV (i := 15 + x.toNat) (by unfold llL; omega) (n := U 28 x.toNat) (llN_r _) (by omega)) (fun M h _ => gLk_at (h.2.2 (15 + x.toNat) (by unfold llL; first | omega | (show _ ∨ _ < U 45 0; omega)))) rfl rfl (fun _ h => h.elim) (fun _ _ h => h) rfl rfl (Nat.le_of_ble_eq_true rfl) (gFit.of hR (by decide) (Nat.le_of_ble_eq_true rfl) (Nat.le_of_ble_eq_true rfl)) (fun _ h => h.elim) (fun v9 A9 U9 L9 h9 => ?_)
    obtain ⟨rfl, h7, h8, rfl⟩ := h9
    obtain rfl := h7.symm
    obtain rfl := h8.symm
    refine t_eq (st' := [.int (iI (U 28 x.toNat)), .int (iI (U 6 (5 * U 26 x.toNat + t).toNat))]) rfl rfl ?_
    refine t_run X 2 (pc1 := 75) (ls1 := [_, _, _, _, _, _, _, _, _]) (st1 := [_, _]) rfl ?_
    refine t_eq (ls' := [some (.ref (A 10 0)), some (.int (iI x)), some (.int (iI t)), some (.ref (A 15 (x.toNat))), some (.int (iI ((5 * (U 26 x.toNat)) + t))), some (.ref (A 24 ((5 * U 26 x.toNat + t).toNat))), none, none, none]) (st' := [.int (iI 6), .int (iI ((U 6 (5 * U 26 x.toNat + t).toNat) + (U 28 x.toNat)))]) (by first | rfl | (simp only [iI_add, iI_sub, iI_mul, iI_neg]; done) | (simp only [iI_add, iI_sub, iI_mul, iI_neg] <;> rfl)) (by first | rfl | (simp only [iI_add, iI_sub, iI_mul, iI_neg]; done) | (simp only [iI_add, iI_sub, iI_mul, iI_neg] <;> rfl)) ?_
    refine t_br X (pc1 := 82) (st1 := []) rfl (fun b9 => ?_) (fun b9 => ?_)
    · have c75 : 6 < ((U 6 (5 * U 26 x.toNat + t).toNat) + (U 28 x.toNat)) := cLt b9 (by omega) (by omega)
      refine t_run X 1 (pc1 := 83) (ls1 := [_, _, _, _, _, _, _, _, _]) (st1 := [_]) rfl ?_
      refine t_eq (st' := [.int (iI (bI (False)))]) rfl rfl ?_
      refine t_callS X [] [] rfl mX1_154 (tc_allowed z.2.1 EV (False)) rfl rfl (fun _ h => h.elim) (fun _ _ h => h) rfl rfl (Nat.le_of_ble_eq_true rfl) (gFit.of hR (by decide) (Nat.le_of_ble_eq_true rfl) (Nat.le_of_ble_eq_true rfl)) (fun E h => t_out X hQ hE (by omega) (by omega) (Or.inr (Or.inr ⟨h.1, by omega, by omega, by omega⟩))) (fun v9 A9 U9 L9 h9 => ?_)
      exact h9.2.elim
    · have c75 : ((U 6 (5 * U 26 x.toNat + t).toNat) + (U 28 x.toNat)) ≤ 6 := cNl b9 (by omega) (by omega)
      refine t_run X 2 (pc1 := 83) (ls1 := [_, _, _, _, _, _, _, _, _]) (st1 := [_]) rfl ?_
      refine t_eq (st' := [.int (iI (bI (True)))]) rfl rfl ?_
      refine t_callS X [] [] rfl mX1_154 (tc_allowed z.2.1 EV (True)) rfl rfl (fun _ h => h.elim) (fun _ _ h => h) rfl rfl (Nat.le_of_ble_eq_true rfl) (gFit.of hR (by decide) (Nat.le_of_ble_eq_true rfl) (Nat.le_of_ble_eq_true rfl)) (fun E h => (h.2 trivial).elim) (fun v9 A9 U9 L9 h9 => ?_)
      obtain ⟨⟨rfl, h7, h8, rfl⟩, -⟩ := h9
      obtain rfl := h7.symm
      obtain rfl := h8.symm
      refine t_eq (st' := []) rfl rfl ?_
      refine t_run X 2 (pc1 := 88) (ls1 := [_, _, _, _, _, _, _, _, _]) (st1 := [_, _]) rfl ?_
      refine t_pu27 X (x := 1) (Or.inr rfl) rfl fX1_340 (by omega) (show ¬ (15 : Nat) = 9 by decide) (fun _ h => nomatch h) ?_
      refine t_run X 1 (pc1 := 92) (ls1 := [_, _, _, _, _, _, _, _, _]) (st1 := [_]) rfl ?_
      refine t_get X (15, (x.toNat)) (v := .ref (A 24 (15 + x.toNat))) rfl fX1_343 (sC_15 (by first | omega | (show _ < U 45 0; omega) | (simp [vS]; omega))) rfl ?_
      refine t_callU X [] [] rfl mX1_310_2 (tc_lliter z.2.1 EV (U := (vS U 27 x.toNat 1)) (i := (15 + x.toNat)) (by unfold llL; show _ ∨ _ < U 45 0; omega) (75, 0) (by decide)) (fun M h _ => gLk_at (h.2.2 _ (by unfold llL; show _ ∨ _ < U 45 0; omega))) rfl rfl (fun _ h => by rw [h]; exact Nat.ne_of_beq_eq_false rfl) (fun _ h => by cases h) rfl rfl (Nat.le_of_ble_eq_true rfl) (gFit.of hR (by decide) (Nat.le_of_ble_eq_true rfl) (Nat.le_of_ble_eq_true rfl)) (fun _ h => h.elim) (fun v9 A9 U9 L9 h9 => ?_)
      obtain ⟨q1, m0, ns0, lr, rfl, h7, h8, rfl⟩ := h9
      obtain rfl := h7.symm
      subst h8
      refine t_eq (st' := [.ref q1]) rfl rfl ?_
      refine t_run X 1 (pc1 := 100) (ls1 := [_, _, _, _, _, _, _, _, _]) (st1 := []) rfl ?_
      refine t_itbase (by unfold llL; show _ ∨ _ < U 45 0; omega) (congrArg Int.toNat (llN_r (U := (vS U 27 x.toNat 1)) _)) (fun M1 m9 ns G hF1 => ?_)
      exact loop M1 m9 ns G hF1 (by omega) q1 (U 28 x.toNat).toNat 0 (by omega) _ _ (by omega) (by omega) lr
