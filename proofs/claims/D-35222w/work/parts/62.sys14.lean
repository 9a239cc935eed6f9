/-! THE SYSTEM's methods walked: departures -/
section GT
variable {z : gZ} {S : gS} {EV : gEV} {Q : State → Prop} {M0 : gM} {T T1 T' : gTag → Prop} {A A' : gAd} {U U' : gV} {L L' Lr : gLL} {k n pc idx : Nat} {ls : List (Option Value)} {st rest As : List Value} {d' mc' ms' : Nat} {y : MethodName} {bytes : ByteArray} {maxL nA b : Nat}
theorem t_takeF (h : ∀ M, TD EV M A U → gL M L → gFr T M0 M → TD EV M A' U' ∧ gL M L') (kk : gTd z S EV Q T M0 A' U' L' k n pc ls st) : gTd z S EV Q T M0 A U L k n pc ls st :=
  fun M h1 h2 h3 => kk M (h M h1 h2 h3).1 (h M h1 h2 h3).2 h3
/-- a constructor whose outcome is P; the frame begins anew -/
theorem t_callIM (X : CX z S EV) (P : gM → Prop) (rs : List Nat) (hT : S.2.2.2.2.1 pc = some (.invokespecial idx, 3)) (LK : gLkI S.2.1 idx y bytes maxL nA) (hC : ∀ M, TD EV M A U → gL M L → GC z.2.1 y (ws_ y bytes maxL none) d' mc' ms' EV (.ref b :: As) M (fun v M' => v = none ∧ P M' ∧ gFr T' M M') gNo) (hD : ∀ M M', TD EV M A U → gFr T' M M' → TD EV M' A U)
    (hrs : rs.filterMap (fun i => L[i]?) = Lr) (hTT : ∀ t, T' t → T t) (hr : ∀ x ∈ Lr, ¬ T' x.2.1)
    (hn : As.length = nA) (hst : st = As.reverse ++ .ref b :: rest) (hw : (rest.map fun v => v.category).sum ≤ 8) (hf : gFit z k n d' mc' ms')
    (kk : ∀ M1, P M1 → gFr T M0 M1 → gTd z S EV Q T1 M1 A U Lr (k + mc') (n + ms') (pc + 3) ls rest) : gTd z S EV Q T M0 A U L k n pc ls st :=
  fun M h1 h2 h3 => g_callI X hT LK (hC M h1 h2) hn hst hw hf (fun E M' h => h.elim) (fun v M' ⟨hv, hP, hF⟩ => by
    subst hv
    exact kk M' hP (h3.trans (hF.mono hTT)) M' (hD M M' h1 hF) ((h2.sub rs hrs).fr hF hr) gFr.rf)
end GT
theorem ll_copyT (l : Launch) (EV : gEV) {M : gM} {A : gAd} {V : gV} {p : Int} {b c : Nat} (hp : 0 ≤ p ∧ p < 15) (hD : TD EV M A V) (hb : M b = some ((24, 15 + c), .inr (2, [.int 0, .int 0, .null, .null]))) (hn : 0 < V 6 p.toNat) (hr : ∀ k : Int, 0 ≤ k → k < V 6 p.toNat → 0 ≤ V 7 (6 * p + k).toNat ∧ V 7 (6 * p + k).toNat < V 41 0) :
    GC l yJ7_init_2 (ws_ yJ7_init_2 cJ7_init_2 2 none) 5 100 300 EV [.ref b, .ref (A 24 p.toNat)] M (fun v M' => v = none ∧ gLk M' (15 + c) b (V 6 p.toNat).toNat (fun j => A 11 (V 7 (6 * p + (j : Int)).toNat).toNat) ∧ gFr (tLLw (15 + c) (77, 0)) M M') gNo := by
  have h := hD.2.2 p.toNat (Or.inl (by omega))
  rw [llN_t (by omega)] at h
  have h2 := h.cf (g := fun j => A 11 (V 7 (6 * p + (j : Int)).toNat).toNat) (fun j hj => by rw [llF_t (by omega), show 6 * p.toNat + j = (6 * p + (j : Int)).toNat by omega])
  exact ll_copy l EV h2 (by omega) (fun j hj => gOw_11 hD (by have := hr (j : Int) (by omega) (by omega); omega)) hb (by omega) (77, 0) (by decide)
/-- the wagons of track p, as a new row r of trains' wagons -/
def uRo (V : gV) (r p : Int) : Nat → gV
  | 0 => V
  | k + 1 => vS (uRo V r p k) 29 (6 * r + (k : Int)).toNat (V 7 (6 * p + (k : Int)).toNat)
theorem uRo_s {V : gV} {r p : Int} (hr : 0 ≤ r) (n j : Nat) (hj : j < n) : uRo V r p n 29 (6 * r + (j : Int)).toNat = V 7 (6 * p + (j : Int)).toNat := by
  induction n with
  | zero => omega
  | succ n ih =>
    rw [uRo]
    by_cases h : j = n
    · subst h; rw [vS_s]
    · rw [vS_i (by omega), ih (by omega)]
theorem uRo_n {V : gV} {r p : Int} {i : Nat} (n : Nat) (h : ∀ j : Nat, j < n → i ≠ (6 * r + (j : Int)).toNat) : uRo V r p n 29 i = V 29 i := by
  induction n with
  | zero => rfl
  | succ n ih => rw [uRo, vS_i (h n (by omega)), ih (fun j hj => h j (by omega))]
theorem uRo_k {V : gV} {r p : Int} {k i : Nat} (hk : k ≠ 29) (n : Nat) : uRo V r p n k i = V k i := by
  induction n with
  | zero => rfl
  | succ n ih => rw [uRo, vS_k hk, ih]
/-- wagon k of track p may depart -/
def uDk (U : gV) (p : Int) (k : Nat) : Prop := 0 ≤ U 5 (U 7 (6 * p + (k : Int)).toNat).toNat ∧ U 18 (U 5 (U 7 (6 * p + (k : Int)).toNat).toNat).toNat = 2 ∧ ¬ uWh U (U 5 (U 7 (6 * p + (k : Int)).toNat).toNat) p (U 23 (U 5 (U 7 (6 * p + (k : Int)).toNat).toNat).toNat).toNat = 0
def uDc (U : gV) (p : Int) (n : Nat) : Prop := ∀ k, k < n → uDk U p k
/-- k wagons of track p have departed -/
def uDp (W : gV) (p : Int) : Nat → gV
  | 0 => W
  | k + 1 => uBec (vS (vS (uDp W p k) 4 (W 7 (6 * p + (k : Int)).toNat).toNat (uDp W p k 19 (uDp W p k 5 (W 7 (6 * p + (k : Int)).toNat).toNat).toNat)) 3 (W 7 (6 * p + (k : Int)).toNat).toNat (-1)) (uDp W p k 5 (W 7 (6 * p + (k : Int)).toNat).toNat) 3
theorem uDp_s {W : gV} {p b : Int} {k : Nat} (hb : uDp W p k 5 (W 7 (6 * p + (k : Int)).toNat).toNat = b) : uBec (vS (vS (uDp W p k) 4 (W 7 (6 * p + (k : Int)).toNat).toNat (uDp W p k 19 b.toNat)) 3 (W 7 (6 * p + (k : Int)).toNat).toNat (-1)) b 3 = uDp W p (k + 1) := by rw [uDp, hb]
theorem uDp_k {W : gV} {p : Int} {k i : Nat} (h3 : k ≠ 3) (h4 : k ≠ 4) (h5 : k ≠ 5) (h8 : k ≠ 18) (n : Nat) : uDp W p n k i = W k i := by
  induction n with
  | zero => rfl
  | succ n ih => rw [uDp, uBec_k h8 h5, vS_k h3, vS_k h4, ih]
theorem uDp_5 {W : gV} {p c : Int} {n : Nat} (h : ∀ k : Nat, k < n → 0 ≤ W 5 (W 7 (6 * p + (k : Int)).toNat).toNat ∧ W 5 (W 7 (6 * p + (k : Int)).toNat).toNat < c) (k : Nat) (hk : k ≤ n) : ∀ i, uDp W p k 5 i = W 5 i ∨ (0 ≤ uDp W p k 5 i ∧ uDp W p k 5 i < c) := by
  induction k with
  | zero => exact fun i => Or.inl rfl
  | succ k ih =>
    intro i
    have ih := ih (by omega)
    have h0 := h k (by omega)
    have hw := ih (W 7 (6 * p + (k : Int)).toNat).toNat
    rw [uDp]
    rcases uBec_5 (U := vS (vS (uDp W p k) 4 (W 7 (6 * p + (k : Int)).toNat).toNat (uDp W p k 19 (uDp W p k 5 (W 7 (6 * p + (k : Int)).toNat).toNat).toNat)) 3 (W 7 (6 * p + (k : Int)).toNat).toNat (-1)) (b := uDp W p k 5 (W 7 (6 * p + (k : Int)).toNat).toNat) (x := 3) (i := i) with e | e
    · rw [e]; exact ih i
    · rw [e]
      refine Or.inr ?_
      rw [if_neg (by decide)]
      omega
theorem uTr_45 {U W : gV} {o n : Int} : uTr U W o n 45 0 = U 45 0 + 1 := by
  unfold uTr
  rw [if_neg (by decide), vS_s]
theorem uEv_46 {U : gV} {k x y w : Int} : uEv U k x y w 46 0 = U 46 0 + 1 := vS_s
def uDep1 (U : gV) (p o : Int) : gV := vS (uTr (uDp U p (U 6 p.toNat).toNat) (uRo (uDp U p (U 6 p.toNat).toNat) (U 45 0) p (U 6 p.toNat).toNat) o (U 6 p.toNat)) 6 p.toNat 0
def uDep2 (U : gV) (p o : Int) : gV := vS (uDep1 U p o) 25 0 (uDep1 U p o 25 0 + 1)
def uDep3 (U : gV) (p o : Int) : gV := uEv (uDep2 U p o) 2 p 0 0
def uDep (U : gV) (p o : Int) : gV := vS (uDep3 U p o) 33 0 (uDep3 U p o 33 0 + 1)
set_option maxHeartbeats 1000000 in
theorem tc_departU (l : Launch) (EV : gEV) {A : gAd} {U : gV} {y t o : Int} (hy : inR y) (ht : inR t) (ho : inR o) (hev : U 33 0 < 64) (hI : uI U) : TC l yX1_depart cX1_depart 9 (some .int) 12 150 4000 EV tSys [.ref (A 10 0), .int (iI y), .int (iI t), .int (iI o)] A U [] (fun w A9 U9 L9 => (w = some (.int (iI (U 25 0 + 1 - 1))) ∧ A9 10 0 = A 10 0 ∧ U9 = uDep U (5 * y + t) o) ∧ (isTrk y t ∧ isYd o ∧ ¬ y = o) ∧ ¬ U 6 (5 * y + t).toNat = 0 ∧ uDc U (5 * y + t) (U 6 (5 * y + t).toNat).toNat) (fun E => E = cIAE ∧ ¬ (isTrk y t ∧ isYd o ∧ ¬ y = o) ∨ E = cISE ∧ (isTrk y t ∧ isYd o ∧ ¬ y = o) ∧ ¬ (¬ U 6 (5 * y + t).toNat = 0 ∧ uDc U (5 * y + t) (U 6 (5 * y + t).toNat).toNat)) := by
  refine t_body tbX1_depart tkX1_depart (by decide) (by intro v hv; simp only [List.mem_cons, List.not_mem_nil, or_false] at hv; rcases hv with rfl | rfl | rfl | rfl <;> rfl) (Nat.le_of_ble_eq_true rfl) (fun M0 z Q X hl hR hQ hE => ?_)
  subst hl
  have hu := uIs hI
  unfold uS at hu
  have loop2 : ∀ (M1 : gM) (m9 : Int) (ns : Nat → Nat), gLn M1 (5 * y + t).toNat (A 24 (5 * y + t).toNat) (U 6 (5 * y + t).toNat).toNat (llF A U (5 * y + t).toNat) m9 ns → gFr tSys M0 M1 → (isTrk y t ∧ isYd o ∧ ¬ y = o ∧ 0 < U 6 (5 * y + t).toNat ∧ U 6 (5 * y + t).toNat ≤ 6) → uDc U (5 * y + t) (U 6 (5 * y + t).toNat).toNat → ∀ (q1 j k : Nat), (k : Int) + j = U 6 (5 * y + t).toNat → ∀ kc kn : Nat, kc + j ≤ 40 → kn + 4 * j ≤ 300 → ∀ lr : Value, gTd z (cX1_depart, yX1_depart.cls, 9, (some .int), tbX1_depart, yX1_depart.name) EV Q (tNl (5 * y + t).toNat) M1 A (uDp U (5 * y + t) k) [(q1, (75, 0), itL m9 ns lr (A 24 (5 * y + t).toNat) (U 6 (5 * y + t).toNat).toNat k)] kc kn 125 [some (.ref (A 10 0)), some (.int (iI y)), some (.int (iI t)), some (.int (iI o)), some (.int (iI (5 * y + t))), some (.ref (A 24 ((5 * y + t).toNat))), some (.ref q1), none, none] [] := by
    intro M1 m9 ns G hF1 hB hD9 q1 j
    induction j with
    | zero =>
      intro k hk kc kn hkc hkn lr
      have e41 : (uDp U (5 * y + t) k) 41 0 = U 41 0 := uDp_k (by decide) (by decide) (by decide) (by decide) k
      refine t_run X 1 (pc1 := 127) (ls1 := [_, _, _, _, _, _, _, _, _]) (st1 := [_]) rfl ?_
      refine t_callFM X [0] [] rfl mX1_112_17 (tm_llhas z.2.1 EV (k := k) G tNl_h tNl_p (by omega)) (fun M _ h => ⟨_, _, h.at (i := 0) rfl⟩) rfl rfl (fun _ h => h.elim) (fun _ _ h => h) rfl rfl (Nat.le_of_ble_eq_true rfl) (gFit.of hR (by decide) (by omega) (by omega)) (fun _ h => h.elim) (fun v9 A9 U9 L9 h9 => ?_)
      obtain ⟨rfl, h7, h8, rfl⟩ := h9
      obtain rfl := h7.symm
      obtain rfl := h8.symm
      refine t_eq (st' := [.int (iI (bI (((k : Nat) : Int) < (((U 6 (5 * y + t).toNat).toNat : Nat) : Int))))]) rfl rfl ?_
      refine t_L (L' := [(q1, (75, 0), itL m9 ns lr (A 24 (5 * y + t).toNat) (U 6 (5 * y + t).toNat).toNat k)]) rfl ?_
      refine t_br X (pc1 := 182) (st1 := []) rfl (fun b9 => ?_) (fun b9 => ?_)
      · have c132 : ¬ (((k : Nat) : Int) < (((U 6 (5 * y + t).toNat).toNat : Nat) : Int)) := bI_f b9
        have e9 : k = (U 6 (5 * y + t).toNat).toNat := by omega
        subst e9
        refine t_sub [] rfl ?_
        refine t_unbase hF1 (fun _ h => h.1) ?_
        have g45 : (uDp U (5 * y + t) (U 6 (5 * y + t).toNat).toNat) 45 0 = U 45 0 := uDp_k (by decide) (by decide) (by decide) (by decide) _
        have g46 : (uDp U (5 * y + t) (U 6 (5 * y + t).toNat).toNat) 46 0 = U 46 0 := uDp_k (by decide) (by decide) (by decide) (by decide) _
        have g33 : (uDp U (5 * y + t) (U 6 (5 * y + t).toNat).toNat) 33 0 = U 33 0 := uDp_k (by decide) (by decide) (by decide) (by decide) _
        have g25 : (uDp U (5 * y + t) (U 6 (5 * y + t).toNat).toNat) 25 0 = U 25 0 := uDp_k (by decide) (by decide) (by decide) (by decide) _
        have g7 : ∀ i, (uDp U (5 * y + t) (U 6 (5 * y + t).toNat).toNat) 7 i = U 7 i := fun i => uDp_k (by decide) (by decide) (by decide) (by decide) _
        have g6 : (uDp U (5 * y + t) (U 6 (5 * y + t).toNat).toNat) 6 (5 * y + t).toNat = U 6 (5 * y + t).toNat := uDp_k (by decide) (by decide) (by decide) (by decide) _
        have g28 : ∀ i, (uDp U (5 * y + t) (U 6 (5 * y + t).toNat).toNat) 28 i = U 28 i := fun i => uDp_k (by decide) (by decide) (by decide) (by decide) _
        have g46n := g46
        have g45n := g45
        have hdn : ∀ t9 : gTag, tLLw (15 + (U 45 0).toNat) (77, 0) t9 → tDead EV A (uDp U (5 * y + t) (U 6 (5 * y + t).toNat).toNat) t9 := fun t9 h => by
          have hn9 : ¬ llL (uDp U (5 * y + t) (U 6 (5 * y + t).toNat).toNat) (15 + (U 45 0).toNat) := by unfold llL; rw [g45]; omega
          rcases h with (h | h) | h
          · rw [h]; exact tDead_ll hn9
          · have e9 : t9 = (25, 8 * (15 + (U 45 0).toNat) + t9.2 % 8) := by
              have h2 := h.2
              exact Prod.ext h.1 (show t9.2 = 8 * (15 + (U 45 0).toNat) + t9.2 % 8 by omega)
            rw [e9]; exact tDead_nd (by omega) hn9
          · rw [h]; exact tDead_loc (by decide)
        refine t_new X (15, (U 45 0).toNat) rfl nX1_321 (rc hR (by omega)) (rs hR (by omega)) (fun q1 => ?_)
        refine t_L (L' := [(q1, (15, (U 45 0).toNat), .inr (18, [.null, .int (iI 0), .int (iI 0)]))]) rfl ?_
        refine t_run X 1 (pc1 := 186) (ls1 := [_, _, _, _, _, _, _, _, _]) (st1 := [_, _]) rfl ?_
        refine t_new X (24, 15 + (U 45 0).toNat) rfl nX1_47 (rc hR (by omega)) (rs hR (by omega)) (fun q2 => ?_)
        refine t_L (L' := [(q1, (15, (U 45 0).toNat), .inr (18, [.null, .int (iI 0), .int (iI 0)])), (q2, (24, 15 + (U 45 0).toNat), .inr (2, [.int (iI 0), .int (iI 0), .null, .null]))]) rfl ?_
        refine t_run X 2 (pc1 := 192) (ls1 := [_, _, _, _, _, _, _, _, _]) (st1 := [_, _, _, _, _]) rfl ?_
        refine t_callIM X (T1 := tO (15, (U 45 0).toNat)) (fun M9 => gLk M9 (15 + (U 45 0).toNat) q2 ((uDp U (5 * y + t) (U 6 (5 * y + t).toNat).toNat) 6 (5 * y + t).toNat).toNat (fun j => A 11 ((uDp U (5 * y + t) (U 6 (5 * y + t).toNat).toNat) 7 (6 * (5 * y + t) + (j : Int)).toNat).toNat)) [0] rfl mX1_323 (fun M hD hL => ll_copyT z.2.1 EV (p := (5 * y + t)) (by omega) hD (hL.at (i := 1) rfl) (by rw [g6]; omega) (fun k9 g0 g1 => by rw [g6] at g1; rw [g7, e41]; have := uI7 hI (a := (5 * y + t)) (by omega) (by omega) g0 g1; omega)) (fun M M9 hD hF => hD.dead hF hdn) rfl (fun t9 h => by rcases h with (h | h) | h; (rw [h]; exact Nat.ne_of_beq_eq_false rfl); (show ¬ t9.1 = 9; omega); (rw [h]; exact Nat.ne_of_beq_eq_false rfl)) (by intro x9 hx; obtain rfl := List.mem_singleton.mp (show x9 ∈ [_] from hx); intro h; rcases h with (h | h) | h; (exact absurd (show (15 : Nat) = 24 from congrArg Prod.fst h) (by decide)); (exact absurd (show (15 : Nat) = 25 from h.1) (by decide)); (exact absurd (show (15 : Nat) = 77 from congrArg Prod.fst h) (by decide))) rfl rfl (Nat.le_of_ble_eq_true rfl) (gFit.of hR (by decide) (by omega) (by omega)) (fun M2 G2 hF2 => ?_)
        refine t_eq (st' := [.ref q2, .ref q1, .ref q1]) rfl rfl ?_
        refine t_L (L' := [(q1, (15, (U 45 0).toNat), .inr (18, [.null, .int (iI 0), .int (iI 0)]))]) rfl ?_
        refine t_run X 1 (pc1 := 196) (ls1 := [_, _, _, _, _, _, _, _, _]) (st1 := [_, _, _, _]) rfl ?_
        refine t_callI X [0] [] rfl mX1_326 (TC.ofJ (jc_train_init z.2.1 EV (a := q1) (t := (15, (U 45 0).toNat)) (b := q2) (y := o)) (fun _ _ _ => trivial) (fun t9 h => h ▸ tDead_c (by decide) (if_neg (by rw [g45]; show ¬ ((U 45 0).toNat : Int) < U 45 0; omega)))) rfl rfl (fun _ h => h) (fun _ h => by cases h) rfl rfl (Nat.le_of_ble_eq_true rfl) (gFit.of hR (by decide) (by omega) (by omega)) (fun _ h => h.elim) (fun v9 A9 U9 L9 h9 => ?_)
        obtain ⟨⟨rfl, rfl⟩, h7, h8⟩ := h9
        obtain rfl := h7.symm
        subst h8
        refine t_eq (st' := [.ref q1]) rfl rfl ?_
        refine t_L (L' := [(q1, (15, (U 45 0).toNat), .inr (18, [.ref q2, .int (iI o), .int (iI 0)]))]) rfl ?_
        refine t_takeF (A' := (aS (aS A 15 (U 45 0).toNat q1) 24 (15 + (U 45 0).toNat) q2)) (U' := (uTr (uDp U (5 * y + t) (U 6 (5 * y + t).toNat).toNat) (uRo (uDp U (5 * y + t) (U 6 (5 * y + t).toNat).toNat) (U 45 0) (5 * y + t) (U 6 (5 * y + t).toNat).toNat) o (U 6 (5 * y + t).toNat))) (L' := []) (fun M hD hL hF => ⟨by
          have G3 := (G2.fr hF (fun e => absurd (show (24 : Nat) = 15 from congrArg Prod.fst e) (by decide)) (fun p hp e => absurd (show (25 : Nat) = 15 from congrArg Prod.fst e) (by decide))).cf (g := fun j => A 11 (uRo (uDp U (5 * y + t) (U 6 (5 * y + t).toNat).toNat) (U 45 0) (5 * y + t) (U 6 (5 * y + t).toNat).toNat 29 (6 * (U 45 0).toNat + j)).toNat) (fun j hj => by rw [show 6 * (U 45 0).toNat + j = (6 * U 45 0 + (j : Int)).toNat by omega, uRo_s (by omega) _ j (by omega)])
          rw [g6] at G3
          have h9 := hD.newT (q := q1) (a := q2) (o := o) (n := U 6 (5 * y + t).toNat) (W := uRo (uDp U (5 * y + t) (U 6 (5 * y + t).toNat).toNat) (U 45 0) (5 * y + t) (U 6 (5 * y + t).toNat).toNat) (by omega) (by omega) (by omega) (by rw [g45n]; exact hL.at (i := 0) rfl) (by rw [g45n]; exact G3) (fun r j hr hj => uRo_n _ (fun j9 h9 => by rw [g28] at hj; have := uIt hI (j := (r : Int)) (by omega) (by omega); have h6 : U 28 ((r : Int)).toNat = U 28 r := rfl; omega))
          rw [g45n] at h9
          exact h9, fun x hx => nomatch hx⟩) ?_
        refine t_unbase hF2 (fun t9 h => (by rw [h]; exact Nat.ne_of_beq_eq_false rfl)) ?_
        have a24 : (aS (aS A 15 (U 45 0).toNat q1) 24 (15 + (U 45 0).toNat) q2) 24 (5 * y + t).toNat = A 24 (5 * y + t).toNat := (aS_n (Or.inr (by omega))).trans rfl
        have a15 : (aS (aS A 15 (U 45 0).toNat q1) 24 (15 + (U 45 0).toNat) q2) 15 (U 45 0).toNat = q1 := (aS_n (Or.inl (by decide))).trans aS_s
        have u45 : (uTr (uDp U (5 * y + t) (U 6 (5 * y + t).toNat).toNat) (uRo (uDp U (5 * y + t) (U 6 (5 * y + t).toNat).toNat) (U 45 0) (5 * y + t) (U 6 (5 * y + t).toNat).toNat) o (U 6 (5 * y + t).toNat)) 45 0 = U 45 0 + 1 := uTr_45.trans (by omega)
        refine t_run X 2 (pc1 := 203) (ls1 := [_, _, _, _, _, _, _, _, _]) (st1 := [_]) rfl ?_
        refine t_eq (st' := [.ref ((aS (aS A 15 (U 45 0).toNat q1) 24 (15 + (U 45 0).toNat) q2) 24 ((5 * y + t).toNat))]) rfl (by rw [a24]) ?_
        refine t_callV X [] [] rfl mX1_329 (tc_llempt z.2.1 EV (A := (aS (aS A 15 (U 45 0).toNat q1) 24 (15 + (U 45 0).toNat) q2)) (U := (uTr (uDp U (5 * y + t) (U 6 (5 * y + t).toNat).toNat) (uRo (uDp U (5 * y + t) (U 6 (5 * y + t).toNat).toNat) (U 45 0) (5 * y + t) (U 6 (5 * y + t).toNat).toNat) o (U 6 (5 * y + t).toNat))) (p := (5 * y + t)) (by omega) (by show 0 < (uDp U (5 * y + t) (U 6 (5 * y + t).toNat).toNat) 6 _; omega)) (fun M h _ => gLk_at (h.2.2 _ (Or.inl (by omega)))) rfl rfl (fun t h => by rcases h with h | ⟨h, -⟩; (rw [h]; exact Nat.ne_of_beq_eq_false rfl); show ¬ t.1 = 9; omega) (fun _ h => by cases h) rfl rfl (Nat.le_of_ble_eq_true rfl) (gFit.of hR (by decide) (by omega) (by omega)) (fun _ h => h.elim) (fun v9 A9 U9 L9 h9 => ?_)
        obtain ⟨rfl, h7, h8, rfl⟩ := h9
        subst h7
        subst h8
        refine t_U (U' := (uDep1 U (5 * y + t) o)) rfl ?_
        have u45b : (uDep1 U (5 * y + t) o) 45 0 = U 45 0 + 1 := u45
        have u25 : (uDep1 U (5 * y + t) o) 25 0 = U 25 0 := g25
        refine t_eq (st' := []) rfl rfl ?_
        refine t_run X 1 (pc1 := 207) (ls1 := [_, _, _, _, _, _, _, _, _]) (st1 := [_]) rfl ?_
        refine t_get X (10, 0) (v := .ref ((aS (aS A 15 (U 45 0).toNat q1) 24 (15 + (U 45 0).toNat) q2) 30 4)) rfl fX1_41 sC_10 rfl ?_
        refine t_run X 1 (pc1 := 212) (ls1 := [_, _, _, _, _, _, _, _, _]) (st1 := [_, _]) rfl ?_
        refine t_callV X [] [] rfl mX1_50 (tc_add4 z.2.1 EV (A := (aS (aS A 15 (U 45 0).toNat q1) 24 (15 + (U 45 0).toNat) q2)) (U := (uDep1 U (5 * y + t) o)) (by omega) (by omega) (by rw [u25, show U 25 0 = U 45 0 by omega]; exact a15)) (fun M h _ => gAL_at (h.2.1 4 (by unfold alL; omega))) rfl rfl (fun t h => by rcases h with h | ⟨h, -⟩; (rw [h]; exact Nat.ne_of_beq_eq_false rfl); show ¬ t.1 = 9; omega) (fun _ h => by cases h) rfl rfl (Nat.le_of_ble_eq_true rfl) (gFit.of hR (by decide) (by omega) (by omega)) (fun _ h => h.elim) (fun v9 A9 U9 L9 h9 => ?_)
        obtain ⟨rfl, h7, h8, rfl⟩ := h9
        subst h7
        subst h8
        refine t_U (U' := (uDep2 U (5 * y + t) o)) rfl ?_
        have g46 : (uDep2 U (5 * y + t) o) 46 0 = U 46 0 := g46n
        have g33b : (uDep2 U (5 * y + t) o) 33 0 = U 33 0 := g33
        have u25b : (uDep2 U (5 * y + t) o) 25 0 = U 25 0 + 1 := by show vS _ 25 0 ((uDep1 U (5 * y + t) o) 25 0 + 1) 25 0 = _; rw [vS_s]; omega
        refine t_eq (st' := [.int (iI 1)]) rfl rfl ?_
        refine t_run X 2 (pc1 := 217) (ls1 := [_, _, _, _, _, _, _, _, _]) (st1 := [_]) rfl ?_
        refine t_get X (10, 0) (v := .ref ((aS (aS A 15 (U 45 0).toNat q1) 24 (15 + (U 45 0).toNat) q2) 30 5)) rfl fX1_44 sC_10 rfl ?_
        refine t_new X (16, (U 46 0).toNat) rfl nX1_332 (rc hR (by omega)) (rs hR (by omega)) (fun q3 => ?_)
        refine t_L (L' := [(q3, (16, (U 46 0).toNat), .inr (19, [.int (iI 0)]))]) rfl ?_
        refine t_run X 2 (pc1 := 226) (ls1 := [_, _, _, _, _, _, _, _, _]) (st1 := [_, _, _, _]) rfl ?_
        refine t_callI X [0] [] rfl mX1_334 (TC.ofJ (jc_departed_init z.2.1 EV (a := q3) (t := (16, (U 46 0).toNat)) (x := (5 * y + t))) (fun _ _ _ => trivial) (fun t9 h => h ▸ tDead_c (by decide) (if_neg (by rw [g46]; show ¬ ((U 46 0).toNat : Int) < U 46 0; omega)))) rfl rfl (fun _ h => by rw [h]; exact Nat.ne_of_beq_eq_false rfl) (fun _ h => by cases h) rfl rfl (Nat.le_of_ble_eq_true rfl) (gFit.of hR (by decide) (by omega) (by omega)) (fun _ h => h.elim) (fun v9 A9 U9 L9 h9 => ?_)
        obtain ⟨⟨rfl, rfl⟩, h7, h8⟩ := h9
        subst h7
        subst h8
        refine t_eq (st' := [.ref q3, .ref ((aS (aS A 15 (U 45 0).toNat q1) 24 (15 + (U 45 0).toNat) q2) 30 5)]) rfl rfl ?_
        refine t_L (L' := [(q3, (16, (U 46 0).toNat), .inr (19, [.int (iI (5 * y + t))]))]) rfl ?_
        refine t_take (A' := (aS (aS (aS A 15 (U 45 0).toNat q1) 24 (15 + (U 45 0).toNat) q2) 16 (U 46 0).toNat q3)) (U' := (uDep3 U (5 * y + t) o)) (L' := []) (fun M hD hL => ⟨by rw [← g46]; exact hD.newE (k := 2) (x := (5 * y + t)) (y := 0) (w := 0) (by omega) (by omega) (by rw [g46]; exact hL.at (i := 0) rfl), fun x hx => nomatch hx⟩) ?_
        have e46 : (uDep3 U (5 * y + t) o) 46 0 = U 46 0 + 1 := (show (uDep3 U (5 * y + t) o) 46 0 = (uDep2 U (5 * y + t) o) 46 0 + 1 from uEv_46).trans (by omega)
        have e33 : (uDep3 U (5 * y + t) o) 33 0 = U 46 0 := by show (uDep2 U (5 * y + t) o) 33 0 = _; omega
        refine t_callV X [] [] rfl mX1_50 (tc_add5 z.2.1 EV (A := (aS (aS (aS A 15 (U 45 0).toNat q1) 24 (15 + (U 45 0).toNat) q2) 16 (U 46 0).toNat q3)) (U := (uDep3 U (5 * y + t) o)) (by show 0 ≤ (uDep3 U (5 * y + t) o) 33 0 ∧ (uDep3 U (5 * y + t) o) 33 0 ≤ 72; omega) (by omega) (by rw [e33]; exact aS_s)) (fun M h _ => gAL_at (h.2.1 5 (by unfold alL; omega))) rfl rfl (fun t h => by rcases h with h | ⟨h, -⟩; (rw [h]; exact Nat.ne_of_beq_eq_false rfl); show ¬ t.1 = 9; omega) (fun _ h => by cases h) rfl rfl (Nat.le_of_ble_eq_true rfl) (gFit.of hR (by decide) (by omega) (by omega)) (fun _ h => h.elim) (fun v9 A9 U9 L9 h9 => ?_)
        obtain ⟨rfl, h7, h8, rfl⟩ := h9
        subst h7
        subst h8
        refine t_U (U' := (uDep U (5 * y + t) o)) rfl ?_
        have u25c : (uDep U (5 * y + t) o) 25 0 = U 25 0 + 1 := u25b
        refine t_eq (st' := [.int (iI 1)]) rfl rfl ?_
        refine t_run X 2 (pc1 := 234) (ls1 := [_, _, _, _, _, _, _, _, _]) (st1 := [_]) rfl ?_
        refine t_get X (10, 0) (v := .ref ((aS (aS (aS A 15 (U 45 0).toNat q1) 24 (15 + (U 45 0).toNat) q2) 16 (U 46 0).toNat q3) 30 4)) rfl fX1_41 sC_10 rfl ?_
        refine t_callV X [] [] rfl mX1_146 (tc_alsizeN z.2.1 EV (i := 4) (by unfold alL; omega) (n := U 25 0 + 1) (by show (uDep U (5 * y + t) o) 25 0 = _; omega) (by omega)) (fun M h _ => gAL_at (h.2.1 4 (by unfold alL; omega))) rfl rfl (fun _ h => h.elim) (fun _ _ h => h) rfl rfl (Nat.le_of_ble_eq_true rfl) (gFit.of hR (by decide) (by omega) (by omega)) (fun _ h => h.elim) (fun v9 A9 U9 L9 h9 => ?_)
        obtain ⟨rfl, h7, h8, rfl⟩ := h9
        obtain rfl := h7.symm
        obtain rfl := h8.symm
        refine t_eq (st' := [.int (iI (U 25 0 + 1))]) rfl rfl ?_
        refine t_run X 2 (pc1 := 242) (ls1 := [_, _, _, _, _, _, _, _, _]) (st1 := [_]) rfl ?_
        refine t_eq (ls' := [some (.ref (A 10 0)), some (.int (iI y)), some (.int (iI t)), some (.int (iI o)), some (.int (iI (5 * y + t))), some (.ref (A 24 (5 * y + t).toNat)), some (.ref q1), none, none]) (st' := [.int (iI ((U 25 0 + 1) - 1))]) (by first | rfl | (simp only [iI_add, iI_sub, iI_mul, iI_neg]; done) | (simp only [iI_add, iI_sub, iI_mul, iI_neg] <;> rfl)) (by first | rfl | (simp only [iI_add, iI_sub, iI_mul, iI_neg]; done) | (simp only [iI_add, iI_sub, iI_mul, iI_neg] <;> rfl)) ?_
        exact t_iret X hQ rfl rfl (by omega) (by omega) ⟨⟨rfl, rfl, rfl⟩, by omega, by omega, hD9⟩
      · have c132 : ((k : Nat) : Int) < (((U 6 (5 * y + t).toNat).toNat : Nat) : Int) := bI_t b9
        exact absurd c132 (by omega)
    | succ j ih =>
      intro k hk kc kn hkc hkn lr
      have e41 : (uDp U (5 * y + t) k) 41 0 = U 41 0 := uDp_k (by decide) (by decide) (by decide) (by decide) k
      have e42 : (uDp U (5 * y + t) k) 42 0 = U 42 0 := uDp_k (by decide) (by decide) (by decide) (by decide) k
      have e23 : ∀ i, (uDp U (5 * y + t) k) 23 i = U 23 i := fun i => uDp_k (by decide) (by decide) (by decide) (by decide) k
      have e24 : ∀ i, (uDp U (5 * y + t) k) 24 i = U 24 i := fun i => uDp_k (by decide) (by decide) (by decide) (by decide) k
      have h7w := uI7 hI (a := (5 * y + t)) (k := (k : Int)) (by omega) (by omega) (by omega) (by omega)
      have h5a : ∀ k9 : Nat, k9 < (U 6 (5 * y + t).toNat).toNat → 0 ≤ U 5 (U 7 (6 * (5 * y + t) + (k9 : Int)).toNat).toNat ∧ U 5 (U 7 (6 * (5 * y + t) + (k9 : Int)).toNat).toNat < U 17 0 := fun k9 h9 => by
        have h8 := uI7 hI (a := (5 * y + t)) (k := (k9 : Int)) (by omega) (by omega) (by omega) (by omega)
        exact ⟨(hD9 k9 h9).1, (uI5 hI h8.1 h8.2).2⟩
      have h5c := h5a k (by omega)
      have h5b := uDp_5 h5a k (by omega) (U 7 (6 * (5 * y + t) + (k : Int)).toNat).toNat
      obtain ⟨bk, hb9⟩ : ∃ bk : Int, (uDp U (5 * y + t) k) 5 (U 7 (6 * (5 * y + t) + (k : Int)).toNat).toNat = bk := ⟨_, rfl⟩
      rw [hb9] at h5b
      have bb := uIb hI (j := bk) (by omega) (by omega)
      have eF : llF A U (5 * y + t).toNat k = A 11 (U 7 (6 * (5 * y + t) + (k : Int)).toNat).toNat := by
        rw [llF_t (by omega), show 6 * (5 * y + t).toNat + k = (6 * (5 * y + t) + (k : Int)).toNat by omega]
      refine t_run X 1 (pc1 := 127) (ls1 := [_, _, _, _, _, _, _, _, _]) (st1 := [_]) rfl ?_
      refine t_callFM X [0] [] rfl mX1_112_17 (tm_llhas z.2.1 EV (k := k) G tNl_h tNl_p (by omega)) (fun M _ h => ⟨_, _, h.at (i := 0) rfl⟩) rfl rfl (fun _ h => h.elim) (fun _ _ h => h) rfl rfl (Nat.le_of_ble_eq_true rfl) (gFit.of hR (by decide) (by omega) (by omega)) (fun _ h => h.elim) (fun v9 A9 U9 L9 h9 => ?_)
      obtain ⟨rfl, h7, h8, rfl⟩ := h9
      obtain rfl := h7.symm
      obtain rfl := h8.symm
      refine t_eq (st' := [.int (iI (bI (((k : Nat) : Int) < (((U 6 (5 * y + t).toNat).toNat : Nat) : Int))))]) rfl rfl ?_
      refine t_L (L' := [(q1, (75, 0), itL m9 ns lr (A 24 (5 * y + t).toNat) (U 6 (5 * y + t).toNat).toNat k)]) rfl ?_
      refine t_br X (pc1 := 182) (st1 := []) rfl (fun b9 => ?_) (fun b9 => ?_)
      · have c132 : ¬ (((k : Nat) : Int) < (((U 6 (5 * y + t).toNat).toNat : Nat) : Int)) := bI_f b9
        exact absurd c132 (by omega)
      · have c132 : ((k : Nat) : Int) < (((U 6 (5 * y + t).toNat).toNat : Nat) : Int) := bI_t b9
        refine t_run X 1 (pc1 := 137) (ls1 := [_, _, _, _, _, _, _, _, _]) (st1 := [_]) rfl ?_
        refine t_callFM X [0] [] rfl mX1_117_17 (tm_llnext z.2.1 EV (u := (75, 0)) (k := k) (by decide) G tNl_h tNl_p (by omega)) (fun M _ h => ⟨_, _, h.at (i := 0) rfl⟩) rfl rfl (fun t9 h => by rw [h]; exact tNl_o (by decide) (by decide) (by decide)) (fun _ h => by cases h) rfl rfl (Nat.le_of_ble_eq_true rfl) (gFit.of hR (by decide) (by omega) (by omega)) (fun _ h => h.elim) (fun v9 A9 U9 L9 h9 => ?_)
        obtain ⟨rfl, h7, h8, rfl⟩ := h9
        obtain rfl := h7.symm
        obtain rfl := h8.symm
        refine t_eq (st' := [.ref (A 11 ((U 7 (6 * (5 * y + t) + (k : Int)).toNat).toNat))]) rfl (by rw [eF]; rfl) ?_
        refine t_L (L' := [(q1, (75, 0), itL m9 ns (.ref (ns k)) (A 24 (5 * y + t).toNat) (U 6 (5 * y + t).toNat).toNat (k + 1))]) rfl ?_
        refine t_cast X rfl kX1_69_7 (fun M h _ => ⟨_, _, h.1 (11, (U 7 (6 * (5 * y + t) + (k : Int)).toNat).toNat) _ (sC_11 (by rw [e41]; omega))⟩) ?_
        refine t_run X 3 (pc1 := 151) (ls1 := [_, _, _, _, _, _, _, _, _]) (st1 := [_, _]) rfl ?_
        refine t_get X (11, (U 7 (6 * (5 * y + t) + (k : Int)).toNat).toNat) (v := .ref (A 12 (bk.toNat))) rfl fX1_89 (sC_11 (by show _ < (uDp U (5 * y + t) k) 41 0; rw [e41]; omega)) (by show some (rfA A 12 ((uDp U (5 * y + t) k) 5 _)) = _; rw [show (uDp U (5 * y + t) k) 5 (U 7 (6 * (5 * y + t) + (k : Int)).toNat).toNat = bk from hb9, rfA_1 (by omega)]) ?_
        refine t_get X (12, bk.toNat) (v := .int (iI ((uDp U (5 * y + t) k) 19 bk.toNat))) rfl fX1_239 (sC_12 (by show _ < (uDp U (5 * y + t) k) 42 0; rw [e42]; omega)) rfl ?_
        refine t_pu4 X (x := ((uDp U (5 * y + t) k) 19 bk.toNat)) rfl fX1_68 (by show _ < (uDp U (5 * y + t) k) 41 0; rw [e41]; omega) (tNl_o (Nat.ne_of_beq_eq_false rfl) (Nat.ne_of_beq_eq_false rfl) (Nat.ne_of_beq_eq_false rfl)) (by intro x9 hx; obtain rfl := List.mem_singleton.mp (show x9 ∈ [_] from hx); simp) ?_
        refine t_run X 2 (pc1 := 163) (ls1 := [_, _, _, _, _, _, _, _, _]) (st1 := [_, _]) rfl ?_
        refine t_pu3 X (x := (-1)) rfl fX1_185 (by show _ < (uDp U (5 * y + t) k) 41 0; rw [e41]; omega) (tNl_o (Nat.ne_of_beq_eq_false rfl) (Nat.ne_of_beq_eq_false rfl) (Nat.ne_of_beq_eq_false rfl)) (by intro x9 hx; obtain rfl := List.mem_singleton.mp (show x9 ∈ [_] from hx); simp) ?_
        refine t_run X 1 (pc1 := 168) (ls1 := [_, _, _, _, _, _, _, _, _]) (st1 := [_]) rfl ?_
        refine t_get X (11, (U 7 (6 * (5 * y + t) + (k : Int)).toNat).toNat) (v := .ref (A 12 (bk.toNat))) rfl fX1_89 (sC_11 (by show _ < (uDp U (5 * y + t) k) 41 0; rw [e41]; omega)) (by show some (rfA A 12 ((vS (vS (uDp U (5 * y + t) k) 4 (U 7 (6 * (5 * y + t) + (k : Int)).toNat).toNat ((uDp U (5 * y + t) k) 19 bk.toNat)) 3 (U 7 (6 * (5 * y + t) + (k : Int)).toNat).toNat (-1)) 5 _)) = _; rw [show (vS (vS (uDp U (5 * y + t) k) 4 (U 7 (6 * (5 * y + t) + (k : Int)).toNat).toNat ((uDp U (5 * y + t) k) 19 bk.toNat)) 3 (U 7 (6 * (5 * y + t) + (k : Int)).toNat).toNat (-1)) 5 (U 7 (6 * (5 * y + t) + (k : Int)).toNat).toNat = bk from hb9, rfA_1 (by omega)]) ?_
        refine t_enum X 3 (by decide) rfl q2238 ?_
        refine t_callV X [] [0] rfl mX1_258 (tc_become z.2.1 EV (b := bk) (x := 3) (by show 0 ≤ bk ∧ bk < (uDp U (5 * y + t) k) 42 0; rw [e42]; omega) (by show (uDp U (5 * y + t) k) 42 0 ≤ 40; rw [e42]; omega) (by decide) (by show 0 ≤ (uDp U (5 * y + t) k) 23 bk.toNat ∧ (uDp U (5 * y + t) k) 23 bk.toNat ≤ 30; rw [e23]; omega) (fun k9 g0 g1 => by have h2 : k9 < (uDp U (5 * y + t) k) 23 bk.toNat := g1; rw [e23] at h2; show 0 ≤ (uDp U (5 * y + t) k) 24 _ ∧ (uDp U (5 * y + t) k) 24 _ < (uDp U (5 * y + t) k) 41 0; rw [e24, e41]; exact uR24 hI (b := bk) (by omega) (by omega) k9 g0 h2)) (fun M h _ => ⟨_, _, h.1 (12, bk.toNat) _ (sC_12 (by show _ < (uDp U (5 * y + t) k) 42 0; rw [e42]; omega))⟩) rfl rfl (fun t9 h => by rcases h with h | h | h; (exact tNl_o (by omega) (by omega) (by omega)); (exact tNl_o (by omega) (by omega) (by omega)); subst h; exact tNl_o (Nat.ne_of_beq_eq_false rfl) (Nat.ne_of_beq_eq_false rfl) (Nat.ne_of_beq_eq_false rfl)) (by intro x9 hx; obtain rfl := List.mem_singleton.mp (show x9 ∈ [_] from hx); intro h; rcases h with h | h | h; exact absurd (show (75 : Nat) = 11 from h) (by decide); exact absurd (show (75 : Nat) = 12 from h) (by decide); exact absurd (show ((75 : Nat), (0 : Nat)) = (71, 0) from h) (by decide)) rfl rfl (Nat.le_of_ble_eq_true rfl) (gFit.of hR (by decide) (by omega) (by omega)) (fun _ h => h.elim) (fun v9 A9 U9 L9 h9 => ?_)
        obtain ⟨rfl, h7, h8, -⟩ := h9
        obtain rfl := h7.symm
        subst h8
        refine t_drop ?_
        refine t_eq (st' := [.int (iI ((vS (vS (uDp U (5 * y + t) k) 4 (U 7 (6 * (5 * y + t) + (k : Int)).toNat).toNat ((uDp U (5 * y + t) k) 19 bk.toNat)) 3 (U 7 (6 * (5 * y + t) + (k : Int)).toNat).toNat (-1)) 23 bk.toNat))]) rfl rfl ?_
        refine t_L (L' := [(q1, (75, 0), itL m9 ns (.ref (ns k)) (A 24 (5 * y + t).toNat) (U 6 (5 * y + t).toNat).toNat (k + 1))]) rfl ?_
        refine t_run X 2 (pc1 := 125) (ls1 := [_, _, _, _, _, _, _, _, _]) (st1 := []) rfl ?_
        refine t_U (U' := uDp U (5 * y + t) (k + 1)) (uDp_s hb9) ?_
        exact t_forget [true, true, true, true, true, true, true, false, false] rfl (ih (k + 1) (by omega) (kc + 1) (kn + 4) (by omega) (by omega) _)
  have loop1 : ∀ (M1 : gM) (m9 : Int) (ns : Nat → Nat), gLn M1 (5 * y + t).toNat (A 24 (5 * y + t).toNat) (U 6 (5 * y + t).toNat).toNat (llF A U (5 * y + t).toNat) m9 ns → gFr tSys M0 M1 → (isTrk y t ∧ isYd o ∧ ¬ y = o ∧ 0 < U 6 (5 * y + t).toNat ∧ U 6 (5 * y + t).toNat ≤ 6) → ∀ (q1 j k : Nat), (k : Int) + j = U 6 (5 * y + t).toNat → (∀ k9, k9 < k → uDk U (5 * y + t) k9) → ∀ kc kn : Nat, kc + 2 * j ≤ 20 → kn + 10 * j ≤ 200 → ∀ lr : Value, gTd z (cX1_depart, yX1_depart.cls, 9, (some .int), tbX1_depart, yX1_depart.name) EV Q (tNl (5 * y + t).toNat) M1 A U [(q1, (75, 0), itL m9 ns lr (A 24 (5 * y + t).toNat) (U 6 (5 * y + t).toNat).toNat k)] kc kn 50 [some (.ref (A 10 0)), some (.int (iI y)), some (.int (iI t)), some (.int (iI o)), some (.int (iI (5 * y + t))), some (.ref (A 24 ((5 * y + t).toNat))), some (.ref q1), none, none] [] := by
    intro M1 m9 ns G hF1 hB q1 j
    induction j with
    | zero =>
      intro k hk hd kc kn hkc hkn lr
      refine t_run X 1 (pc1 := 52) (ls1 := [_, _, _, _, _, _, _, _, _]) (st1 := [_]) rfl ?_
      refine t_callFM X [0] [] rfl mX1_112_17 (tm_llhas z.2.1 EV (k := k) G tNl_h tNl_p (by omega)) (fun M _ h => ⟨_, _, h.at (i := 0) rfl⟩) rfl rfl (fun _ h => h.elim) (fun _ _ h => h) rfl rfl (Nat.le_of_ble_eq_true rfl) (gFit.of hR (by decide) (by omega) (by omega)) (fun _ h => h.elim) (fun v9 A9 U9 L9 h9 => ?_)
      obtain ⟨rfl, h7, h8, rfl⟩ := h9
      obtain rfl := h7.symm
      obtain rfl := h8.symm
      refine t_eq (st' := [.int (iI (bI (((k : Nat) : Int) < (((U 6 (5 * y + t).toNat).toNat : Nat) : Int))))]) rfl rfl ?_
      refine t_L (L' := [(q1, (75, 0), itL m9 ns lr (A 24 (5 * y + t).toNat) (U 6 (5 * y + t).toNat).toNat k)]) rfl ?_
      refine t_br X (pc1 := 118) (st1 := []) rfl (fun b9 => ?_) (fun b9 => ?_)
      · have c57 : ¬ (((k : Nat) : Int) < (((U 6 (5 * y + t).toNat).toNat : Nat) : Int)) := bI_f b9
        have hD9 : uDc U (5 * y + t) (U 6 (5 * y + t).toNat).toNat := fun k9 h9 => hd k9 (by omega)
        refine t_sub [] rfl ?_
        refine t_unbase hF1 (fun _ h => h.1) ?_
        refine t_run X 1 (pc1 := 120) (ls1 := [_, _, _, _, _, _, _, _, _]) (st1 := [_]) rfl ?_
        refine t_callU X [] [] rfl mX1_310_2 (tc_lliter z.2.1 EV (U := U) (i := (5 * y + t).toNat) (by unfold llL; omega) (75, 0) (by decide)) (fun M h _ => gLk_at (h.2.2 _ (by unfold llL; omega))) rfl rfl (fun _ h => by rw [h]; exact Nat.ne_of_beq_eq_false rfl) (fun _ h => by cases h) rfl rfl (Nat.le_of_ble_eq_true rfl) (gFit.of hR (by decide) (by omega) (by omega)) (fun _ h => h.elim) (fun v9 A9 U9 L9 h9 => ?_)
        obtain ⟨q120, m120, ns120, lr120, rfl, h7, h8, rfl⟩ := h9
        obtain rfl := h7.symm
        obtain rfl := h8.symm
        refine t_eq (st' := [.ref q120]) rfl rfl ?_
        refine t_run X 1 (pc1 := 125) (ls1 := [_, _, _, _, _, _, _, _, _]) (st1 := []) rfl ?_
        refine t_itbase (by unfold llL; omega) (congrArg Int.toNat (llN_t (U := U) (i := (5 * y + t).toNat) (by omega))) (fun M1 m9 ns G hF1 => ?_)
        exact loop2 M1 m9 ns G hF1 hB hD9 _ (U 6 (5 * y + t).toNat).toNat 0 (by omega) _ _ (by omega) (by omega) lr120
      · have c57 : ((k : Nat) : Int) < (((U 6 (5 * y + t).toNat).toNat : Nat) : Int) := bI_t b9
        exact absurd c57 (by omega)
    | succ j ih =>
      intro k hk hd kc kn hkc hkn lr
      have h7w := uI7 hI (a := (5 * y + t)) (k := (k : Int)) (by omega) (by omega) (by omega) (by omega)
      have h5w := uI5 hI (j := (U 7 (6 * (5 * y + t) + (k : Int)).toNat)) (by omega) (by omega)
      have eF : llF A U (5 * y + t).toNat k = A 11 (U 7 (6 * (5 * y + t) + (k : Int)).toNat).toNat := by
        rw [llF_t (by omega), show 6 * (5 * y + t).toNat + k = (6 * (5 * y + t) + (k : Int)).toNat by omega]
      refine t_run X 1 (pc1 := 52) (ls1 := [_, _, _, _, _, _, _, _, _]) (st1 := [_]) rfl ?_
      refine t_callFM X [0] [] rfl mX1_112_17 (tm_llhas z.2.1 EV (k := k) G tNl_h tNl_p (by omega)) (fun M _ h => ⟨_, _, h.at (i := 0) rfl⟩) rfl rfl (fun _ h => h.elim) (fun _ _ h => h) rfl rfl (Nat.le_of_ble_eq_true rfl) (gFit.of hR (by decide) (by omega) (by omega)) (fun _ h => h.elim) (fun v9 A9 U9 L9 h9 => ?_)
      obtain ⟨rfl, h7, h8, rfl⟩ := h9
      obtain rfl := h7.symm
      obtain rfl := h8.symm
      refine t_eq (st' := [.int (iI (bI (((k : Nat) : Int) < (((U 6 (5 * y + t).toNat).toNat : Nat) : Int))))]) rfl rfl ?_
      refine t_L (L' := [(q1, (75, 0), itL m9 ns lr (A 24 (5 * y + t).toNat) (U 6 (5 * y + t).toNat).toNat k)]) rfl ?_
      refine t_br X (pc1 := 118) (st1 := []) rfl (fun b9 => ?_) (fun b9 => ?_)
      · have c57 : ¬ (((k : Nat) : Int) < (((U 6 (5 * y + t).toNat).toNat : Nat) : Int)) := bI_f b9
        exact absurd c57 (by omega)
      · have c57 : ((k : Nat) : Int) < (((U 6 (5 * y + t).toNat).toNat : Nat) : Int) := bI_t b9
        refine t_run X 1 (pc1 := 62) (ls1 := [_, _, _, _, _, _, _, _, _]) (st1 := [_]) rfl ?_
        refine t_callFM X [0] [] rfl mX1_117_17 (tm_llnext z.2.1 EV (u := (75, 0)) (k := k) (by decide) G tNl_h tNl_p (by omega)) (fun M _ h => ⟨_, _, h.at (i := 0) rfl⟩) rfl rfl (fun t9 h => by rw [h]; exact tNl_o (by decide) (by decide) (by decide)) (fun _ h => by cases h) rfl rfl (Nat.le_of_ble_eq_true rfl) (gFit.of hR (by decide) (by omega) (by omega)) (fun _ h => h.elim) (fun v9 A9 U9 L9 h9 => ?_)
        obtain ⟨rfl, h7, h8, rfl⟩ := h9
        obtain rfl := h7.symm
        obtain rfl := h8.symm
        refine t_eq (st' := [.ref (A 11 ((U 7 (6 * (5 * y + t) + (k : Int)).toNat).toNat))]) rfl (by rw [eF]; rfl) ?_
        refine t_L (L' := [(q1, (75, 0), itL m9 ns (.ref (ns k)) (A 24 (5 * y + t).toNat) (U 6 (5 * y + t).toNat).toNat (k + 1))]) rfl ?_
        refine t_cast X rfl kX1_69_7 (fun M h _ => ⟨_, _, h.1 (11, (U 7 (6 * (5 * y + t) + (k : Int)).toNat).toNat) _ (sC_11 (by omega))⟩) ?_
        refine t_run X 2 (pc1 := 74) (ls1 := [_, _, _, _, _, _, _, _, _]) (st1 := [_]) rfl ?_
        by_cases n1 : (U 5 (U 7 (6 * (5 * y + t) + (k : Int)).toNat).toNat) < 0
        · refine t_get X (11, ((U 7 (6 * (5 * y + t) + (k : Int)).toNat).toNat)) (v := .null) rfl fX1_89 (sC_11 (by first | omega | (show _ < U 41 0; omega) | (simp [vS]; omega))) (by show some (rfA A 12 (U 5 (U 7 (6 * (5 * y + t) + (k : Int)).toNat).toNat)) = _; rw [rfA_0 n1]) ?_
          refine t_run X 1 (pc1 := 111) (ls1 := [_, _, _, _, _, _, _, _, _]) (st1 := []) rfl ?_
          have hno : ¬ uDk U (5 * y + t) k := fun h => by have h1 := h.1; have h2 := h.2.1; have h3 := h.2.2; first | omega | exact h3 c104
          refine t_run X 1 (pc1 := 112) (ls1 := [_, _, _, _, _, _, _, _, _]) (st1 := [_]) rfl ?_
          refine t_eq (st' := [.int (iI (bI (False)))]) rfl rfl ?_
          refine t_callS X [] [0] rfl mX1_154 (tc_allowed z.2.1 EV (False)) rfl rfl (fun _ h => h.elim) (fun _ _ h => h) rfl rfl (Nat.le_of_ble_eq_true rfl) (gFit.of hR (by decide) (by omega) (by omega)) (fun E h => tt_unbase hF1 (fun _ h => h.1) (t_out X hQ hE (by omega) (by omega) (Or.inr ⟨h.1, by omega, fun hh => hno (hh.2 k (by omega))⟩))) (fun v9 A9 U9 L9 h9 => ?_)
          exact h9.2.elim
        · refine t_get X (11, ((U 7 (6 * (5 * y + t) + (k : Int)).toNat).toNat)) (v := .ref (A 12 ((U 5 (U 7 (6 * (5 * y + t) + (k : Int)).toNat).toNat).toNat))) rfl fX1_89 (sC_11 (by first | omega | (show _ < U 41 0; omega) | (simp [vS]; omega))) (by show some (rfA A 12 (U 5 (U 7 (6 * (5 * y + t) + (k : Int)).toNat).toNat)) = _; rw [rfA_1 n1]) ?_
          refine t_run X 1 (pc1 := 80) (ls1 := [_, _, _, _, _, _, _, _, _]) (st1 := []) rfl ?_
          have bb := uIb hI (j := (U 5 (U 7 (6 * (5 * y + t) + (k : Int)).toNat).toNat)) (by omega) (by omega)
          refine t_run X 1 (pc1 := 82) (ls1 := [_, _, _, _, _, _, _, _, _]) (st1 := [_]) rfl ?_
          refine t_get X (11, ((U 7 (6 * (5 * y + t) + (k : Int)).toNat).toNat)) (v := .ref (A 12 ((U 5 (U 7 (6 * (5 * y + t) + (k : Int)).toNat).toNat).toNat))) rfl fX1_89 (sC_11 (by first | omega | (show _ < U 41 0; omega) | (simp [vS]; omega))) (by show some (rfA A 12 (U 5 (U 7 (6 * (5 * y + t) + (k : Int)).toNat).toNat)) = _; rw [rfA_1 n1]) ?_
          refine t_get X (12, ((U 5 (U 7 (6 * (5 * y + t) + (k : Int)).toNat).toNat).toNat)) (v := .ref (EV.2.2.2 (10 + (U 18 (U 5 (U 7 (6 * (5 * y + t) + (k : Int)).toNat).toNat).toNat).toNat))) rfl fX1_268 (sC_12 (by first | omega | (show _ < U 42 0; omega) | (simp [vS]; omega))) rfl ?_
          refine t_canDep X rfl (i := (U 18 (U 5 (U 7 (6 * (5 * y + t) + (k : Int)).toNat).toNat).toNat).toNat) (by omega) rfl (Nat.le_of_ble_eq_true rfl) ⟨by rw [hR]; exact Nat.le_of_ble_eq_true rfl, by rw [hR]; exact Nat.le_of_ble_eq_true rfl⟩ ?_
          refine t_br X (pc1 := 111) (st1 := []) rfl (fun b9 => ?_) (fun b9 => ?_)
          · have c91 : ¬ ((U 18 (U 5 (U 7 (6 * (5 * y + t) + (k : Int)).toNat).toNat).toNat).toNat = 2) := bI_f b9
            have hno : ¬ uDk U (5 * y + t) k := fun h => by have h1 := h.1; have h2 := h.2.1; have h3 := h.2.2; first | omega | exact h3 c104
            refine t_run X 1 (pc1 := 112) (ls1 := [_, _, _, _, _, _, _, _, _]) (st1 := [_]) rfl ?_
            refine t_eq (st' := [.int (iI (bI (False)))]) rfl rfl ?_
            refine t_callS X [] [0] rfl mX1_154 (tc_allowed z.2.1 EV (False)) rfl rfl (fun _ h => h.elim) (fun _ _ h => h) rfl rfl (Nat.le_of_ble_eq_true rfl) (gFit.of hR (by decide) (by omega) (by omega)) (fun E h => tt_unbase hF1 (fun _ h => h.1) (t_out X hQ hE (by omega) (by omega) (Or.inr ⟨h.1, by omega, fun hh => hno (hh.2 k (by omega))⟩))) (fun v9 A9 U9 L9 h9 => ?_)
            exact h9.2.elim
          · have c91 : (U 18 (U 5 (U 7 (6 * (5 * y + t) + (k : Int)).toNat).toNat).toNat).toNat = 2 := bI_t b9
            refine t_run X 1 (pc1 := 96) (ls1 := [_, _, _, _, _, _, _, _, _]) (st1 := [_]) rfl ?_
            refine t_get X (11, ((U 7 (6 * (5 * y + t) + (k : Int)).toNat).toNat)) (v := .ref (A 12 ((U 5 (U 7 (6 * (5 * y + t) + (k : Int)).toNat).toNat).toNat))) rfl fX1_89 (sC_11 (by first | omega | (show _ < U 41 0; omega) | (simp [vS]; omega))) (by show some (rfA A 12 (U 5 (U 7 (6 * (5 * y + t) + (k : Int)).toNat).toNat)) = _; rw [rfA_1 n1]) ?_
            refine t_run X 1 (pc1 := 101) (ls1 := [_, _, _, _, _, _, _, _, _]) (st1 := [_, _]) rfl ?_
            refine t_callS X [] [0] rfl mX1_314 (tc_isWhole z.2.1 EV (b := (U 5 (U 7 (6 * (5 * y + t) + (k : Int)).toNat).toNat)) (p := (5 * y + t)) (by omega) (by omega) hI) rfl rfl (fun t9 h => by rw [h]; exact tNl_o (by decide) (by decide) (by decide)) (by intro x9 hx; obtain rfl := List.mem_singleton.mp (show x9 ∈ [_] from hx); intro h; exact absurd (show ((75 : Nat), (0 : Nat)) = (76, 0) from h) (by decide)) rfl rfl (Nat.le_of_ble_eq_true rfl) (gFit.of hR (by decide) (by omega) (by omega)) (fun _ h => h.elim) (fun v9 A9 U9 L9 h9 => ?_)
            obtain ⟨rfl, h7, h8, -⟩ := h9
            obtain rfl := h7.symm
            obtain rfl := h8.symm
            refine t_drop ?_
            refine t_eq (st' := [.int (iI (uWh U (U 5 (U 7 (6 * (5 * y + t) + (k : Int)).toNat).toNat) (5 * y + t) (U 23 (U 5 (U 7 (6 * (5 * y + t) + (k : Int)).toNat).toNat).toNat).toNat))]) rfl rfl ?_
            refine t_L (L' := [(q1, (75, 0), itL m9 ns (.ref (ns k)) (A 24 (5 * y + t).toNat) (U 6 (5 * y + t).toNat).toNat (k + 1))]) rfl ?_
            have bw := uWh_r U (U 5 (U 7 (6 * (5 * y + t) + (k : Int)).toNat).toNat) (5 * y + t) (U 23 (U 5 (U 7 (6 * (5 * y + t) + (k : Int)).toNat).toNat).toNat).toNat
            refine t_br X (pc1 := 111) (st1 := []) rfl (fun b9 => ?_) (fun b9 => ?_)
            · have c104 : (uWh U (U 5 (U 7 (6 * (5 * y + t) + (k : Int)).toNat).toNat) (5 * y + t) (U 23 (U 5 (U 7 (6 * (5 * y + t) + (k : Int)).toNat).toNat).toNat).toNat) = 0 := cEq b9 (by omega) (by omega)
              have hno : ¬ uDk U (5 * y + t) k := fun h => by have h1 := h.1; have h2 := h.2.1; have h3 := h.2.2; first | omega | exact h3 c104
              refine t_run X 1 (pc1 := 112) (ls1 := [_, _, _, _, _, _, _, _, _]) (st1 := [_]) rfl ?_
              refine t_eq (st' := [.int (iI (bI (False)))]) rfl rfl ?_
              refine t_callS X [] [0] rfl mX1_154 (tc_allowed z.2.1 EV (False)) rfl rfl (fun _ h => h.elim) (fun _ _ h => h) rfl rfl (Nat.le_of_ble_eq_true rfl) (gFit.of hR (by decide) (by omega) (by omega)) (fun E h => tt_unbase hF1 (fun _ h => h.1) (t_out X hQ hE (by omega) (by omega) (Or.inr ⟨h.1, by omega, fun hh => hno (hh.2 k (by omega))⟩))) (fun v9 A9 U9 L9 h9 => ?_)
              exact h9.2.elim
            · have c104 : ¬ (uWh U (U 5 (U 7 (6 * (5 * y + t) + (k : Int)).toNat).toNat) (5 * y + t) (U 23 (U 5 (U 7 (6 * (5 * y + t) + (k : Int)).toNat).toNat).toNat).toNat) = 0 := cNq b9 (by omega) (by omega)
              refine t_run X 2 (pc1 := 112) (ls1 := [_, _, _, _, _, _, _, _, _]) (st1 := [_]) rfl ?_
              refine t_eq (st' := [.int (iI (bI (True)))]) rfl rfl ?_
              refine t_callS X [] [0] rfl mX1_154 (tc_allowed z.2.1 EV (True)) rfl rfl (fun _ h => h.elim) (fun _ _ h => h) rfl rfl (Nat.le_of_ble_eq_true rfl) (gFit.of hR (by decide) (by omega) (by omega)) (fun E h => (h.2 trivial).elim) (fun v9 A9 U9 L9 h9 => ?_)
              obtain ⟨⟨rfl, h7, h8, rfl⟩, -⟩ := h9
              obtain rfl := h7.symm
              obtain rfl := h8.symm
              refine t_eq (st' := []) rfl rfl ?_
              refine t_L (L' := [(q1, (75, 0), itL m9 ns (.ref (ns k)) (A 24 (5 * y + t).toNat) (U 6 (5 * y + t).toNat).toNat (k + 1))]) rfl ?_
              refine t_run X 1 (pc1 := 50) (ls1 := [_, _, _, _, _, _, _, _, _]) (st1 := []) rfl ?_
              exact t_forget [true, true, true, true, true, true, true, false, false] rfl (ih (k + 1) (by omega) (fun k9 h9 => by by_cases hk9 : k9 = k; (subst hk9; exact ⟨by omega, by omega, by omega⟩); exact hd k9 (by omega)) (kc + 1 + 1) (kn + 4 + 6) (by omega) (by omega) _)
  refine t_eq (ls' := [some (.ref (A 10 0)), some (.int (iI y)), some (.int (iI t)), some (.int (iI o)), none, none, none, none, none]) (st' := []) rfl rfl ?_
  refine t_run X 2 (pc1 := 2) (ls1 := [_, _, _, _, _, _, _, _, _]) (st1 := [_, _]) rfl ?_
  refine t_callS X [] [] rfl mX1_160 (tc_trackOf z.2.1 EV (y := y) (t := t) (by omega) (by omega)) rfl rfl (fun _ h => h.elim) (fun _ h => by cases h) rfl rfl (Nat.le_of_ble_eq_true rfl) (gFit.of hR (by decide) (Nat.le_of_ble_eq_true rfl) (Nat.le_of_ble_eq_true rfl)) (fun E h => t_out X hQ hE (by omega) (by omega) (Or.inl ⟨h.1, by have h2 := h.2; omega⟩)) (fun v9 A9 U9 L9 h9 => ?_)
  obtain ⟨⟨rfl, h7, h8, rfl⟩, l2⟩ := h9
  obtain rfl := h7.symm
  obtain rfl := h8.symm
  refine t_eq (st' := [.int (iI (5 * y + t))]) rfl rfl ?_
  refine t_run X 4 (pc1 := 10) (ls1 := [_, _, _, _, _, _, _, _, _]) (st1 := [_, _, _]) rfl ?_
  refine t_callS X [] [] rfl mX1_143 (tc_unlike z.2.1 EV (x := y) (y := o) (m := 3) (by omega) (by omega) (by omega)) rfl rfl (fun _ h => h.elim) (fun _ h => by cases h) rfl rfl (Nat.le_of_ble_eq_true rfl) (gFit.of hR (by decide) (Nat.le_of_ble_eq_true rfl) (Nat.le_of_ble_eq_true rfl)) (fun E h => t_out X hQ hE (by omega) (by omega) (Or.inl ⟨h.1, by have h2 := h.2; omega⟩)) (fun v9 A9 U9 L9 h9 => ?_)
  obtain ⟨⟨rfl, h7, h8, rfl⟩, l10⟩ := h9
  obtain rfl := h7.symm
  obtain rfl := h8.symm
  refine t_eq (st' := []) rfl rfl ?_
  refine t_run X 1 (pc1 := 14) (ls1 := [_, _, _, _, _, _, _, _, _]) (st1 := [_]) rfl ?_
  refine t_get X (10, 0) (v := .ref (A 30 0)) rfl fX1_10 sC_10 rfl ?_
  refine t_run X 1 (pc1 := 19) (ls1 := [_, _, _, _, _, _, _, _, _]) (st1 := [_, _]) rfl ?_
  refine t_callV X [] [] rfl mX1_74 (tc_algetN z.2.1 EV (i := 0) (n := 15) (by unfold alL; omega) rfl (by omega) (x := (5 * y + t)) (by omega) rfl) (fun M h _ => gAL_at (h.2.1 0 (by unfold alL; omega))) rfl rfl (fun _ h => h.elim) (fun _ _ h => h) rfl rfl (Nat.le_of_ble_eq_true rfl) (gFit.of hR (by decide) (Nat.le_of_ble_eq_true rfl) (Nat.le_of_ble_eq_true rfl)) (fun _ h => h.elim) (fun v9 A9 U9 L9 h9 => ?_)
  obtain ⟨rfl, h7, h8, rfl⟩ := h9
  obtain rfl := h7.symm
  obtain rfl := h8.symm
  refine t_eq (st' := [.ref (A 24 ((5 * y + t).toNat))]) rfl rfl ?_
  refine t_cast X rfl kX1_47_2 (fun M h _ => gLk_at (h.2.2 (5 * y + t).toNat (by unfold llL; omega))) ?_
  refine t_run X 2 (pc1 := 29) (ls1 := [_, _, _, _, _, _, _, _, _]) (st1 := [_]) rfl ?_
  have b6 := uI6 hI (j := (5 * y + t)) (by omega) (by omega)
  refine t_callU X [] [] rfl mX1_192_2 (tc_llemptyT z.2.1 EV (p := (5 * y + t)) (by omega) (by omega)) (fun M h _ => gLk_at (h.2.2 ((5 * y + t).toNat) (by unfold llL; first | omega | (show _ ∨ _ < U 45 0; omega)))) rfl rfl (fun _ h => h.elim) (fun _ _ h => h) rfl rfl (Nat.le_of_ble_eq_true rfl) (gFit.of hR (by decide) (Nat.le_of_ble_eq_true rfl) (Nat.le_of_ble_eq_true rfl)) (fun _ h => h.elim) (fun v9 A9 U9 L9 h9 => ?_)
  obtain ⟨rfl, h7, h8, rfl⟩ := h9
  obtain rfl := h7.symm
  obtain rfl := h8.symm
  refine t_eq (st' := [.int (iI (bI (U 6 (5 * y + t).toNat = 0)))]) rfl rfl ?_
  refine t_br X (pc1 := 39) (st1 := []) rfl (fun b9 => ?_) (fun b9 => ?_)
  · have c32 : U 6 (5 * y + t).toNat = 0 := bI_t b9
    refine t_run X 1 (pc1 := 40) (ls1 := [_, _, _, _, _, _, _, _, _]) (st1 := [_]) rfl ?_
    refine t_eq (st' := [.int (iI (bI (False)))]) rfl rfl ?_
    refine t_callS X [] [] rfl mX1_154 (tc_allowed z.2.1 EV (False)) rfl rfl (fun _ h => h.elim) (fun _ _ h => h) rfl rfl (Nat.le_of_ble_eq_true rfl) (gFit.of hR (by decide) (Nat.le_of_ble_eq_true rfl) (Nat.le_of_ble_eq_true rfl)) (fun E h => t_out X hQ hE (by omega) (by omega) (Or.inr ⟨h.1, by omega, fun hh => hh.1 (by omega)⟩)) (fun v9 A9 U9 L9 h9 => ?_)
    exact h9.2.elim
  · have c32 : ¬ (U 6 (5 * y + t).toNat = 0) := bI_f b9
    refine t_run X 2 (pc1 := 40) (ls1 := [_, _, _, _, _, _, _, _, _]) (st1 := [_]) rfl ?_
    refine t_eq (st' := [.int (iI (bI (True)))]) rfl rfl ?_
    refine t_callS X [] [] rfl mX1_154 (tc_allowed z.2.1 EV (True)) rfl rfl (fun _ h => h.elim) (fun _ _ h => h) rfl rfl (Nat.le_of_ble_eq_true rfl) (gFit.of hR (by decide) (Nat.le_of_ble_eq_true rfl) (Nat.le_of_ble_eq_true rfl)) (fun E h => (h.2 trivial).elim) (fun v9 A9 U9 L9 h9 => ?_)
    obtain ⟨⟨rfl, h7, h8, rfl⟩, -⟩ := h9
    obtain rfl := h7.symm
    obtain rfl := h8.symm
    refine t_eq (st' := []) rfl rfl ?_
    refine t_run X 1 (pc1 := 45) (ls1 := [_, _, _, _, _, _, _, _, _]) (st1 := [_]) rfl ?_
    refine t_callU X [] [] rfl mX1_310_2 (tc_lliter z.2.1 EV (U := U) (i := (5 * y + t).toNat) (by unfold llL; omega) (75, 0) (by decide)) (fun M h _ => gLk_at (h.2.2 _ (by unfold llL; omega))) rfl rfl (fun _ h => by rw [h]; exact Nat.ne_of_beq_eq_false rfl) (fun _ h => by cases h) rfl rfl (Nat.le_of_ble_eq_true rfl) (gFit.of hR (by decide) (Nat.le_of_ble_eq_true rfl) (Nat.le_of_ble_eq_true rfl)) (fun _ h => h.elim) (fun v9 A9 U9 L9 h9 => ?_)
    obtain ⟨q45, m45, ns45, lr45, rfl, h7, h8, rfl⟩ := h9
    obtain rfl := h7.symm
    obtain rfl := h8.symm
    refine t_eq (st' := [.ref q45]) rfl rfl ?_
    refine t_run X 1 (pc1 := 50) (ls1 := [_, _, _, _, _, _, _, _, _]) (st1 := []) rfl ?_
    refine t_itbase (by unfold llL; omega) (congrArg Int.toNat (llN_t (U := U) (i := (5 * y + t).toNat) (by omega))) (fun M1 m9 ns G hF1 => ?_)
    exact loop1 M1 m9 ns G hF1 (by omega) _ (U 6 (5 * y + t).toNat).toNat 0 (by omega) (fun k9 h9 => absurd h9 (Nat.not_lt_zero _)) _ _ (by omega) (by omega) lr45
