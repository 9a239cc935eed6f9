/-! THE SYSTEM's methods walked: trunks, time -/
theorem tc_mapget (l : Launch) (EV : gEV) {A : gAd} {U : gV} {lo hi : Int} (h : 0 ≤ lo ∧ lo < hi ∧ hi ≤ 2) {p : Nat} {tp : gTag} : TC l yJ5_get cJ5_get 3 (some (.object "java/lang/Object")) 4 0 0 EV tF [.ref (A 20 0), .ref p] A U [(p, tp, .inr (4, [.int (iI lo), .int (iI hi)]))] (rV (some (.ref (A 22 (lo + hi - 1).toNat))) A U [(p, tp, .inr (4, [.int (iI lo), .int (iI hi)]))]) rNo := by
  intro M hD hL
  have c0 := hD.1 (20, 0) _ rfl
  have c1 := hD.1 (20, 1) _ rfl
  have hp := hL.at (i := 0) rfl
  have go : ∀ {b k x : Nat} {u ky : gTag} {y3 y4 y5 : Value} {f : Nat → Option Nat} {e1 e2 e3 e4 e5 e6 e7 e8 e9 e11 : Value} {t t2 : gTag}, (0 ≤ lo ∧ lo ≤ 2) → (0 ≤ hi ∧ hi ≤ 2) → f ((3 * lo) + hi).toNat = some b → M (A 20 0) = some (t, .inr (3, [.ref (A 20 1), e1, e2, e3, e4, e5, e6, e7, e8, e9, .int (iI 0), e11])) → M (A 20 1) = some (t2, .inl (EV.2.1 4, 16, .inr (.inr (.inr (.inr f))))) → M b = some (u, .inr (6, [.int (iI ((3 * lo) + hi)), .ref k, .ref x, y3, y4, y5])) → M k = some (ky, .inr (4, [.int (iI lo), .int (iI hi)])) → x = A 22 (lo + hi - 1).toNat →
      GC l yJ5_get (ws_ yJ5_get cJ5_get 3 (some (.object "java/lang/Object"))) 4 0 0 EV [.ref (A 20 0), .ref p] M (tP EV tF M (rV (some (.ref (A 22 (lo + hi - 1).toNat))) A U [(p, tp, .inr (4, [.int (iI lo), .int (iI hi)]))])) (tX EV tF M A U rNo) := by
    intro b k x u ky y3 y4 y5 f e1 e2 e3 e4 e5 e6 e7 e8 e9 e11 t t2 g1 g2 g3 g4 g5 g6 g7 g8
    subst g8
    refine (jc_mapGet l EV (a := A 20 0) (t := t) (e1 := e1) (e2 := e2) (e3 := e3) (e4 := e4) (e5 := e5) (e6 := e6) (e7 := e7) (e8 := e8) (e9 := e9) (e11 := e11) (d := A 20 1) (b := b) (k := k) (p := p) (x := A 22 (lo + hi - 1).toNat) (u := t2) (v := u) (ky := ky) (kp := tp) (y3 := y3) (y4 := y4) (y5 := y5) g1 g2 (f := f) g3 M trivial (fun z hz => ?_)).mono (fun v M' ⟨L', ⟨e77, e78⟩, hL2, hF⟩ => ⟨A, U, _, ⟨e77, rfl, rfl, rfl⟩, hD.loc hF tF_loc, hL.fr hF (fun _ _ h => h), hF⟩) gNo.x
    simp only [List.mem_cons, List.not_mem_nil, or_false] at hz
    rcases hz with rfl | rfl | rfl | rfl | rfl
    · exact g4
    · exact g5
    · exact g6
    · exact g7
    · exact hp
  rcases (by omega : (lo = 0 ∧ hi = 1) ∨ (lo = 0 ∧ hi = 2) ∨ (lo = 1 ∧ hi = 2)) with ⟨rfl, rfl⟩ | ⟨rfl, rfl⟩ | ⟨rfl, rfl⟩
  · exact go (b := A 20 2) (k := A 21 0) (x := A 22 0) (f := fun j => if j = 1 then some (A 20 2) else if j = 2 then some (A 20 3) else if j = 5 then some (A 20 4) else none) (by decide) (by decide) rfl c0 c1 (hD.1 (20, 2) _ rfl) (hD.1 (21, 0) _ rfl) rfl
  · exact go (b := A 20 3) (k := A 21 1) (x := A 22 1) (f := fun j => if j = 1 then some (A 20 2) else if j = 2 then some (A 20 3) else if j = 5 then some (A 20 4) else none) (by decide) (by decide) rfl c0 c1 (hD.1 (20, 3) _ rfl) (hD.1 (21, 1) _ rfl) rfl
  · exact go (b := A 20 4) (k := A 21 2) (x := A 22 2) (f := fun j => if j = 1 then some (A 20 2) else if j = 2 then some (A 20 3) else if j = 5 then some (A 20 4) else none) (by decide) (by decide) rfl c0 c1 (hD.1 (20, 4) _ rfl) (hD.1 (21, 2) _ rfl) rfl
theorem tc_mapgetN (l : Launch) (EV : gEV) {A : gAd} {U : gV} {lo hi a b : Int} (h : 0 ≤ lo ∧ lo < hi ∧ hi ≤ 2) (e : lo + hi = a + b) {p : Nat} {tp : gTag} : TC l yJ5_get cJ5_get 3 (some (.object "java/lang/Object")) 4 0 0 EV tF [.ref (A 20 0), .ref p] A U [(p, tp, .inr (4, [.int (iI lo), .int (iI hi)]))] (rV (some (.ref (A 22 (a + b - 1).toNat))) A U [(p, tp, .inr (4, [.int (iI lo), .int (iI hi)]))]) rNo := by
  rw [← e]
  exact tc_mapget l EV h
abbrev uFr (U : gV) (t : Int) : Prop := U 9 t.toNat < 0 ∧ U 30 t.toNat = 0
def uFB (U : gV) (a b : Int) : Int := if uFr U (2 * (a + b - 1)) then 2 * (a + b - 1) else if uFr U (2 * (a + b - 1) + 1) then 2 * (a + b - 1) + 1 else -1
def uTrk (U : gV) (t : Int) : Int := if U 30 t.toNat = 1 then -2 else if U 9 t.toNat < 0 then -1 else U 9 t.toNat
set_option maxHeartbeats 1000000 in
theorem tc_isFree (l : Launch) (EV : gEV) {A : gAd} {U : gV} {t : Int} (ht : 0 ≤ t ∧ t < 6) (h30 : U 30 t.toNat = 0 ∨ U 30 t.toNat = 1) : TC l yX3_isFree cX3_isFree 1 (some .boolean) 1 0 0 EV tF [.ref (A 14 (t.toNat))] A U [] (rV (some (.int (iI (bI (uFr U t))))) A U []) (rNo) := by
  refine t_body tbX3_isFree tkX3_isFree (by decide) (by intro v hv; simp only [List.mem_cons, List.not_mem_nil, or_false] at hv; rcases hv with rfl <;> rfl) (Nat.le_of_ble_eq_true rfl) (fun M0 z Q X hl hR hQ hE => ?_)
  subst hl
  refine t_eq (ls' := [some (.ref (A 14 (t.toNat)))]) (st' := []) rfl rfl ?_
  refine t_run X 1 (pc1 := 1) (ls1 := [_]) (st1 := [_]) rfl ?_
  by_cases n1 : (U 9 t.toNat) < 0
  · refine t_get X (14, (t.toNat)) (v := .null) rfl fX3_7 (sC_14 (by omega)) (by show some (rfA A 13 (U 9 t.toNat)) = _; rw [rfA_0 n1]) ?_
    refine t_run X 2 (pc1 := 8) (ls1 := [_]) (st1 := [_]) rfl ?_
    refine t_get X (14, (t.toNat)) (v := .int (iI (U 30 t.toNat))) rfl fX3_13 (sC_14 (by omega)) rfl ?_
    refine t_br X (pc1 := 18) (st1 := []) rfl (fun b9 => ?_) (fun b9 => ?_)
    · have c11 : ¬ (U 30 t.toNat) = 0 := cNq b9 (by omega) (by omega)
      refine t_run X 1 (pc1 := 19) (ls1 := [_]) (st1 := [_]) rfl ?_
      exact t_zret X hQ rfl rfl rfl (by omega) (by omega) ⟨by rw [bI_0 (p := uFr U t) (by omega)], rfl, rfl, rfl⟩
    · have c11 : (U 30 t.toNat) = 0 := cEq b9 (by omega) (by omega)
      refine t_run X 2 (pc1 := 19) (ls1 := [_]) (st1 := [_]) rfl ?_
      exact t_zret X hQ rfl rfl rfl (by omega) (by omega) ⟨by rw [bI_1 (p := uFr U t) (by omega)], rfl, rfl, rfl⟩
  · refine t_get X (14, (t.toNat)) (v := .ref (A 13 ((U 9 t.toNat).toNat))) rfl fX3_7 (sC_14 (by omega)) (by show some (rfA A 13 (U 9 t.toNat)) = _; rw [rfA_1 n1]) ?_
    refine t_run X 2 (pc1 := 19) (ls1 := [_]) (st1 := [_]) rfl ?_
    exact t_zret X hQ rfl rfl rfl (by omega) (by omega) ⟨by rw [bI_0 (p := uFr U t) (by omega)], rfl, rfl, rfl⟩
set_option maxHeartbeats 1000000 in
theorem tc_freeBetween (l : Launch) (EV : gEV) {A : gAd} {U : gV} {a b : Int} (ha : 0 ≤ a ∧ a ≤ 2) (hb : 0 ≤ b ∧ b ≤ 2) (hab : ¬ a = b) (hI : uI U) : TC l yX1_freeBetween cX1_freeBetween 7 (some (.object "TrunkYards$Trunk")) 6 1 2 EV (tO (75, 0)) [.ref (A 10 0), .int (iI a), .int (iI b)] A U [] (fun w A9 U9 L9 => w = some (rfA A 14 (uFB U a b)) ∧ A9 = A ∧ U9 = U) (rNo) := by
  refine t_body tbX1_freeBetween tkX1_freeBetween (by decide) (by intro v hv; simp only [List.mem_cons, List.not_mem_nil, or_false] at hv; rcases hv with rfl | rfl | rfl <;> rfl) (Nat.le_of_ble_eq_true rfl) (fun M0 z Q X hl hR hQ hE => ?_)
  subst hl
  have hu := uIs hI
  unfold uS at hu
  refine t_eq (ls' := [some (.ref (A 10 0)), some (.int (iI a)), some (.int (iI b)), none, none, none, none]) (st' := []) rfl rfl ?_
  refine t_run X 1 (pc1 := 1) (ls1 := [_, _, _, _, _, _, _]) (st1 := [_]) rfl ?_
  refine t_get X (10, 0) (v := .ref (A 20 0)) rfl fX1_27 sC_10 rfl ?_
  refine t_new X (75, 0) rfl nX1_54 (rc hR (Nat.le_of_ble_eq_true rfl)) (rs hR (Nat.le_of_ble_eq_true rfl)) (fun q1 => ?_)
  refine t_L (L' := [(q1, (75, 0), .inr (4, [.int (iI 0), .int (iI 0)]))]) rfl ?_
  refine t_run X 3 (pc1 := 10) (ls1 := [_, _, _, _, _, _, _]) (st1 := [_, _, _, _, _]) rfl ?_
  refine t_callI X [0] [] rfl mX1_56 (TC.ofJ (jc_pair_init z.2.1 EV (x := a) (y := b) (by omega) (by omega)) (fun _ _ _ => trivial) (fun t h => h ▸ tDead_loc (by decide))) rfl rfl (fun _ h => h) (fun _ h => by cases h) rfl rfl (Nat.le_of_ble_eq_true rfl) (gFit.of hR (by decide) (Nat.le_of_ble_eq_true rfl) (Nat.le_of_ble_eq_true rfl)) (fun _ h => h.elim) (fun v9 A9 U9 L9 h9 => ?_)
  obtain ⟨⟨rfl, rfl⟩, h7, h8⟩ := h9
  obtain rfl := h7.symm
  obtain rfl := h8.symm
  refine t_eq (st' := [.ref q1, .ref (A 20 0)]) rfl rfl ?_
  refine t_L (L' := [(q1, (75, 0), .inr (4, [.int (iI (if b < a then b else a)), .int (iI (if a < b then b else a))]))]) rfl ?_
  refine t_callV X [0] [] rfl mX1_97 (tc_mapgetN z.2.1 EV (a := a) (b := b) (by split <;> split <;> omega) (by split <;> split <;> omega)) (fun M h _ => ⟨_, _, h.1 (20, 0) _ rfl⟩) rfl rfl (fun _ h => h.elim) (fun _ _ h => h) rfl rfl (Nat.le_of_ble_eq_true rfl) (gFit.of hR (by decide) (Nat.le_of_ble_eq_true rfl) (Nat.le_of_ble_eq_true rfl)) (fun _ h => h.elim) (fun v9 A9 U9 L9 h9 => ?_)
  obtain ⟨rfl, h7, h8, rfl⟩ := h9
  obtain rfl := h7.symm
  obtain rfl := h8.symm
  refine t_eq (st' := [.ref (A 22 ((a + b - 1).toNat))]) rfl rfl ?_
  refine t_L (L' := [(q1, (75, 0), .inr (4, [.int (iI (if b < a then b else a)), .int (iI (if a < b then b else a))]))]) rfl ?_
  refine t_castA X 3 rfl q1195 rfl (by decide +kernel) (fun M h _ => ⟨_, _, h.1 (22, (a + b - 1).toNat) _ (sC_22 (by omega))⟩) ?_
  refine t_run X 2 (pc1 := 21) (ls1 := [_, _, _, _, _, _, _]) (st1 := [_]) rfl ?_
  refine t_alen X 3 (22, (a + b - 1).toNat) (v := iI 2) rfl rfl (sC_22 (by omega)) rfl ?_
  refine t_run X 5 (pc1 := 31) (ls1 := [_, _, _, _, _, _, _]) (st1 := [_, _]) rfl ?_
  refine t_br X (pc1 := 57) (st1 := []) rfl (fun b9 => ?_) (fun b9 => ?_)
  · have c31 : (2 : Int) ≤ (0 : Int) := cLe b9 (by omega) (by omega)
    exact absurd c31 (by omega)
  · have c31 : (0 : Int) < (2 : Int) := cNe b9 (by omega) (by omega)
    refine t_run X 2 (pc1 := 37) (ls1 := [_, _, _, _, _, _, _]) (st1 := [_, _]) rfl ?_
    refine t_aald X 3 (22, (a + b - 1).toNat) (x := iI 0) (j := (0 : Int).toNat) (v := .ref (A 14 ((2 * (a + b - 1) + 0).toNat))) rfl rfl (sC_22 (by omega)) (gIx_i (by omega) (by omega)) (by show va_rf (if _ < 2 then _ else _) = _; rw [if_pos (by omega)]; show Value.ref (A 14 _) = _; congr 2; omega) ?_
    refine t_run X 2 (pc1 := 42) (ls1 := [_, _, _, _, _, _, _]) (st1 := [_]) rfl ?_
    refine t_callV X [] [0] rfl mX1_100 (tc_isFree z.2.1 EV (t := (2 * (a + b - 1) + 0)) (by omega) (uI30 hI (j := (2 * (a + b - 1) + 0)) (by omega) (by omega))) (fun M h _ => ⟨_, _, h.1 (14, ((2 * (a + b - 1) + 0).toNat)) _ (sC_14 (by omega))⟩) rfl rfl (fun _ h => h.elim) (fun _ _ h => h) rfl rfl (Nat.le_of_ble_eq_true rfl) (gFit.of hR (by decide) (Nat.le_of_ble_eq_true rfl) (Nat.le_of_ble_eq_true rfl)) (fun _ h => h.elim) (fun v9 A9 U9 L9 h9 => ?_)
    obtain ⟨rfl, h7, h8, rfl⟩ := h9
    obtain rfl := h7.symm
    obtain rfl := h8.symm
    refine t_eq (st' := [.int (iI (bI (uFr U (2 * (a + b - 1) + 0))))]) rfl rfl ?_
    refine t_L (L' := [(q1, (75, 0), .inr (4, [.int (iI (if b < a then b else a)), .int (iI (if a < b then b else a))]))]) rfl ?_
    refine t_br X (pc1 := 51) (st1 := []) rfl (fun b9 => ?_) (fun b9 => ?_)
    · have c45 : ¬ (uFr U (2 * (a + b - 1) + 0)) := bI_f b9
      have d0 : ¬ uFr U (2 * (a + b - 1)) := by rw [show (2 * (a + b - 1)) = 2 * (a + b - 1) + 0 by omega]; exact c45
      refine t_run X 4 (pc1 := 31) (ls1 := [_, _, _, _, _, _, _]) (st1 := [_, _]) rfl ?_
      refine t_eq (ls' := [some (.ref (A 10 0)), some (.int (iI a)), some (.int (iI b)), some (.ref (A 22 ((a + b - 1).toNat))), some (.int (iI 2)), some (.int (iI 1)), some (.ref (A 14 ((2 * (a + b - 1) + 0).toNat)))]) (st' := [.int (iI 2), .int (iI 1)]) (by first | rfl | (simp only [iI_add, iI_sub, iI_mul, iI_neg]; done) | (simp only [iI_add, iI_sub, iI_mul, iI_neg] <;> rfl)) (by first | rfl | (simp only [iI_add, iI_sub, iI_mul, iI_neg]; done) | (simp only [iI_add, iI_sub, iI_mul, iI_neg] <;> rfl)) ?_
      refine t_br X (pc1 := 57) (st1 := []) rfl (fun b9 => ?_) (fun b9 => ?_)
      · have c31 : (2 : Int) ≤ (1 : Int) := cLe b9 (by omega) (by omega)
        exact absurd c31 (by omega)
      · have c31 : (1 : Int) < (2 : Int) := cNe b9 (by omega) (by omega)
        refine t_run X 2 (pc1 := 37) (ls1 := [_, _, _, _, _, _, _]) (st1 := [_, _]) rfl ?_
        refine t_aald X 3 (22, (a + b - 1).toNat) (x := iI 1) (j := (1 : Int).toNat) (v := .ref (A 14 ((2 * (a + b - 1) + 1).toNat))) rfl rfl (sC_22 (by omega)) (gIx_i (by omega) (by omega)) (by show va_rf (if _ < 2 then _ else _) = _; rw [if_pos (by omega)]; show Value.ref (A 14 _) = _; congr 2; omega) ?_
        refine t_run X 2 (pc1 := 42) (ls1 := [_, _, _, _, _, _, _]) (st1 := [_]) rfl ?_
        refine t_callV X [] [0] rfl mX1_100 (tc_isFree z.2.1 EV (t := (2 * (a + b - 1) + 1)) (by omega) (uI30 hI (j := (2 * (a + b - 1) + 1)) (by omega) (by omega))) (fun M h _ => ⟨_, _, h.1 (14, ((2 * (a + b - 1) + 1).toNat)) _ (sC_14 (by omega))⟩) rfl rfl (fun _ h => h.elim) (fun _ _ h => h) rfl rfl (Nat.le_of_ble_eq_true rfl) (gFit.of hR (by decide) (Nat.le_of_ble_eq_true rfl) (Nat.le_of_ble_eq_true rfl)) (fun _ h => h.elim) (fun v9 A9 U9 L9 h9 => ?_)
        obtain ⟨rfl, h7, h8, rfl⟩ := h9
        obtain rfl := h7.symm
        obtain rfl := h8.symm
        refine t_eq (st' := [.int (iI (bI (uFr U (2 * (a + b - 1) + 1))))]) rfl rfl ?_
        refine t_L (L' := [(q1, (75, 0), .inr (4, [.int (iI (if b < a then b else a)), .int (iI (if a < b then b else a))]))]) rfl ?_
        refine t_br X (pc1 := 51) (st1 := []) rfl (fun b9 => ?_) (fun b9 => ?_)
        · have c45 : ¬ (uFr U (2 * (a + b - 1) + 1)) := bI_f b9
          have d1 : ¬ uFr U ((2 * (a + b - 1)) + 1) := by rw [show ((2 * (a + b - 1)) + 1) = 2 * (a + b - 1) + 1 by omega]; exact c45
          refine t_run X 4 (pc1 := 31) (ls1 := [_, _, _, _, _, _, _]) (st1 := [_, _]) rfl ?_
          refine t_eq (ls' := [some (.ref (A 10 0)), some (.int (iI a)), some (.int (iI b)), some (.ref (A 22 ((a + b - 1).toNat))), some (.int (iI 2)), some (.int (iI 2)), some (.ref (A 14 ((2 * (a + b - 1) + 1).toNat)))]) (st' := [.int (iI 2), .int (iI 2)]) (by first | rfl | (simp only [iI_add, iI_sub, iI_mul, iI_neg]; done) | (simp only [iI_add, iI_sub, iI_mul, iI_neg] <;> rfl)) (by first | rfl | (simp only [iI_add, iI_sub, iI_mul, iI_neg]; done) | (simp only [iI_add, iI_sub, iI_mul, iI_neg] <;> rfl)) ?_
          refine t_br X (pc1 := 57) (st1 := []) rfl (fun b9 => ?_) (fun b9 => ?_)
          · have c31 : (2 : Int) ≤ (2 : Int) := cLe b9 (by omega) (by omega)
            refine t_run X 1 (pc1 := 58) (ls1 := [_, _, _, _, _, _, _]) (st1 := [_]) rfl ?_
            exact t_aret X hQ rfl rfl (Or.inl ⟨_, rfl⟩) (Or.inl rfl) (by omega) (by omega) ⟨by unfold uFB; rw [if_neg d0, if_neg d1, rfA_0 (by omega)], rfl, rfl⟩
          · have c31 : (2 : Int) < (2 : Int) := cNe b9 (by omega) (by omega)
            exact absurd c31 (by omega)
        · have c45 : uFr U (2 * (a + b - 1) + 1) := bI_t b9
          have d1 : uFr U ((2 * (a + b - 1)) + 1) := by rw [show ((2 * (a + b - 1)) + 1) = 2 * (a + b - 1) + 1 by omega]; exact c45
          refine t_run X 1 (pc1 := 50) (ls1 := [_, _, _, _, _, _, _]) (st1 := [_]) rfl ?_
          exact t_aret X hQ rfl rfl (Or.inl ⟨_, rfl⟩) (Or.inr ⟨_, rfl⟩) (by omega) (by omega) ⟨by unfold uFB; rw [if_neg d0, if_pos d1, rfA_1 (by omega)], rfl, rfl⟩
    · have c45 : uFr U (2 * (a + b - 1) + 0) := bI_t b9
      have d0 : uFr U (2 * (a + b - 1)) := by rw [show (2 * (a + b - 1)) = 2 * (a + b - 1) + 0 by omega]; exact c45
      refine t_run X 1 (pc1 := 50) (ls1 := [_, _, _, _, _, _, _]) (st1 := [_]) rfl ?_
      exact t_aret X hQ rfl rfl (Or.inl ⟨_, rfl⟩) (Or.inr ⟨_, rfl⟩) (by omega) (by omega) ⟨by unfold uFB; rw [if_pos d0, rfA_1 (by omega)]; congr 3; omega, rfl, rfl⟩
set_option maxHeartbeats 1000000 in
theorem tc_trunkOf (l : Launch) (EV : gEV) {A : gAd} {U : gV} {a b k : Int} (ha : inR a) (hb : inR b) (hk : inR k) (hI : uI U) : TC l yX1_trunkOf cX1_trunkOf 4 (some (.object "TrunkYards$Trunk")) 8 5 26 EV (tO (75, 0)) [.ref (A 10 0), .int (iI a), .int (iI b), .int (iI k)] A U [] (fun w A9 U9 L9 => w = some (.ref (A 14 (2 * (a + b - 1) + k).toNat)) ∧ A9 = A ∧ U9 = U ∧ isTk a b k) (fun E => E = cIAE ∧ ¬ isTk a b k) := by
  refine t_body tbX1_trunkOf tkX1_trunkOf (by decide) (by intro v hv; simp only [List.mem_cons, List.not_mem_nil, or_false] at hv; rcases hv with rfl | rfl | rfl | rfl <;> rfl) (Nat.le_of_ble_eq_true rfl) (fun M0 z Q X hl hR hQ hE => ?_)
  subst hl
  have hu := uIs hI
  unfold uS at hu
  refine t_eq (ls' := [some (.ref (A 10 0)), some (.int (iI a)), some (.int (iI b)), some (.int (iI k))]) (st' := []) rfl rfl ?_
  refine t_run X 3 (pc1 := 3) (ls1 := [_, _, _, _]) (st1 := [_, _, _]) rfl ?_
  refine t_callS X [] [] rfl mX1_143 (tc_unlike z.2.1 EV (x := a) (y := b) (m := 3) (by omega) (by omega) (by omega)) rfl rfl (fun _ h => h.elim) (fun _ h => by cases h) rfl rfl (Nat.le_of_ble_eq_true rfl) (gFit.of hR (by decide) (Nat.le_of_ble_eq_true rfl) (Nat.le_of_ble_eq_true rfl)) (fun E h => t_out X hQ hE (by omega) (by omega) ⟨h.1, by have h2 := h.2; omega⟩) (fun v9 A9 U9 L9 h9 => ?_)
  obtain ⟨⟨rfl, h7, h8, rfl⟩, l3⟩ := h9
  obtain rfl := h7.symm
  obtain rfl := h8.symm
  refine t_eq (st' := []) rfl rfl ?_
  refine t_run X 3 (pc1 := 9) (ls1 := [_, _, _, _]) (st1 := [_, _, _]) rfl ?_
  refine t_callS X [] [] rfl mX1_139 (tc_limited z.2.1 EV (v := k) (lo := 0) (hi := 1) (by omega) (by omega) (by omega)) rfl rfl (fun _ h => h.elim) (fun _ h => by cases h) rfl rfl (Nat.le_of_ble_eq_true rfl) (gFit.of hR (by decide) (Nat.le_of_ble_eq_true rfl) (Nat.le_of_ble_eq_true rfl)) (fun E h => t_out X hQ hE (by omega) (by omega) ⟨h.1, by have h2 := h.2; omega⟩) (fun v9 A9 U9 L9 h9 => ?_)
  obtain ⟨⟨rfl, h7, h8, rfl⟩, l9⟩ := h9
  obtain rfl := h7.symm
  obtain rfl := h8.symm
  refine t_eq (st' := []) rfl rfl ?_
  refine t_run X 1 (pc1 := 13) (ls1 := [_, _, _, _]) (st1 := [_]) rfl ?_
  refine t_get X (10, 0) (v := .ref (A 20 0)) rfl fX1_27 sC_10 rfl ?_
  refine t_new X (75, 0) rfl nX1_54 (rc hR (Nat.le_of_ble_eq_true rfl)) (rs hR (Nat.le_of_ble_eq_true rfl)) (fun q1 => ?_)
  refine t_L (L' := [(q1, (75, 0), .inr (4, [.int (iI 0), .int (iI 0)]))]) rfl ?_
  refine t_run X 3 (pc1 := 22) (ls1 := [_, _, _, _]) (st1 := [_, _, _, _, _]) rfl ?_
  refine t_callI X [0] [] rfl mX1_56 (TC.ofJ (jc_pair_init z.2.1 EV (x := a) (y := b) (by omega) (by omega)) (fun _ _ _ => trivial) (fun t h => h ▸ tDead_loc (by decide))) rfl rfl (fun _ h => h) (fun _ h => by cases h) rfl rfl (Nat.le_of_ble_eq_true rfl) (gFit.of hR (by decide) (Nat.le_of_ble_eq_true rfl) (Nat.le_of_ble_eq_true rfl)) (fun _ h => h.elim) (fun v9 A9 U9 L9 h9 => ?_)
  obtain ⟨⟨rfl, rfl⟩, h7, h8⟩ := h9
  obtain rfl := h7.symm
  obtain rfl := h8.symm
  refine t_eq (st' := [.ref q1, .ref (A 20 0)]) rfl rfl ?_
  refine t_L (L' := [(q1, (75, 0), .inr (4, [.int (iI (if b < a then b else a)), .int (iI (if a < b then b else a))]))]) rfl ?_
  refine t_callV X [0] [] rfl mX1_97 (tc_mapgetN z.2.1 EV (a := a) (b := b) (by split <;> split <;> omega) (by split <;> split <;> omega)) (fun M h _ => ⟨_, _, h.1 (20, 0) _ rfl⟩) rfl rfl (fun _ h => h.elim) (fun _ _ h => h) rfl rfl (Nat.le_of_ble_eq_true rfl) (gFit.of hR (by decide) (Nat.le_of_ble_eq_true rfl) (Nat.le_of_ble_eq_true rfl)) (fun _ h => h.elim) (fun v9 A9 U9 L9 h9 => ?_)
  obtain ⟨rfl, h7, h8, rfl⟩ := h9
  obtain rfl := h7.symm
  obtain rfl := h8.symm
  refine t_eq (st' := [.ref (A 22 ((a + b - 1).toNat))]) rfl rfl ?_
  refine t_L (L' := [(q1, (75, 0), .inr (4, [.int (iI (if b < a then b else a)), .int (iI (if a < b then b else a))]))]) rfl ?_
  refine t_castA X 3 rfl q1195 rfl (by decide +kernel) (fun M h _ => ⟨_, _, h.1 (22, (a + b - 1).toNat) _ (sC_22 (by omega))⟩) ?_
  refine t_run X 1 (pc1 := 32) (ls1 := [_, _, _, _]) (st1 := [_, _]) rfl ?_
  refine t_aald X 3 (22, (a + b - 1).toNat) (x := iI k) (j := k.toNat) (v := .ref (A 14 ((2 * (a + b - 1) + k).toNat))) rfl rfl (sC_22 (by omega)) (gIx_i (by omega) (by omega)) (by show va_rf (if _ < 2 then _ else _) = _; rw [if_pos (by omega)]; show Value.ref (A 14 _) = _; congr 2; omega) ?_
  exact t_aret X hQ rfl rfl (Or.inl ⟨_, rfl⟩) (Or.inr ⟨_, rfl⟩) (by omega) (by omega) ⟨rfl, rfl, rfl, by omega⟩
set_option maxHeartbeats 1000000 in
theorem tc_mendU (l : Launch) (EV : gEV) {A : gAd} {U : gV} {a b k : Int} (ha : inR a) (hb : inR b) (hk : inR k) (hI : uI U) : TC l yX1_mend cX1_mend 5 none 9 6 32 EV tSys [.ref (A 10 0), .int (iI a), .int (iI b), .int (iI k)] A U [] (fun w A9 U9 L9 => rV none A (vS U 30 (2 * (a + b - 1) + k).toNat 0) [] w A9 U9 L9 ∧ isTk a b k ∧ U 30 (2 * (a + b - 1) + k).toNat = 1) (fun E => E = cIAE ∧ ¬ isTk a b k ∨ E = cISE ∧ isTk a b k ∧ ¬ U 30 (2 * (a + b - 1) + k).toNat = 1) := by
  refine t_body tbX1_mend tkX1_mend (by decide) (by intro v hv; simp only [List.mem_cons, List.not_mem_nil, or_false] at hv; rcases hv with rfl | rfl | rfl | rfl <;> rfl) (Nat.le_of_ble_eq_true rfl) (fun M0 z Q X hl hR hQ hE => ?_)
  subst hl
  have hu := uIs hI
  unfold uS at hu
  refine t_eq (ls' := [some (.ref (A 10 0)), some (.int (iI a)), some (.int (iI b)), some (.int (iI k)), none]) (st' := []) rfl rfl ?_
  refine t_run X 4 (pc1 := 4) (ls1 := [_, _, _, _, _]) (st1 := [_, _, _, _]) rfl ?_
  refine t_callV X [] [] rfl mX1_290 (tc_trunkOf z.2.1 EV (a := a) (b := b) (k := k) (by omega) (by omega) (by omega) hI) (fun M h _ => ⟨_, _, h.1 (10, 0) _ sC_10⟩) rfl rfl (fun _ h => by rw [h]; show ¬ (_ : Nat) = 9; decide) (fun _ h => by cases h) rfl rfl (Nat.le_of_ble_eq_true rfl) (gFit.of hR (by decide) (Nat.le_of_ble_eq_true rfl) (Nat.le_of_ble_eq_true rfl)) (fun E h => t_out X hQ hE (by omega) (by omega) (Or.inl h)) (fun v9 A9 U9 L9 h9 => ?_)
  obtain ⟨rfl, h7, h8, l4⟩ := h9
  obtain rfl := h7.symm
  obtain rfl := h8.symm
  refine t_drop ?_
  have b30 := uI30 hI (j := 2 * (a + b - 1) + k) (by omega) (by omega)
  have b9k := uI9 hI (j := 2 * (a + b - 1) + k) (by omega) (by omega)
  refine t_eq (st' := [.ref (A 14 ((2 * (a + b - 1) + k).toNat))]) rfl rfl ?_
  refine t_run X 2 (pc1 := 11) (ls1 := [_, _, _, _, _]) (st1 := [_]) rfl ?_
  refine t_get X (14, ((2 * (a + b - 1) + k).toNat)) (v := .int (iI (U 30 (2 * (a + b - 1) + k).toNat))) rfl fX1_294 (sC_14 (by omega)) rfl ?_
  refine t_eq (ls' := [some (.ref (A 10 0)), some (.int (iI a)), some (.int (iI b)), some (.int (iI k)), some (.ref (A 14 ((2 * (a + b - 1) + k).toNat)))]) (st' := [.int (iI (bI (¬ (U 30 (2 * (a + b - 1) + k).toNat) = 0)))]) rfl (by rw [bI_of (x := (U 30 (2 * (a + b - 1) + k).toNat)) (by omega)]) ?_
  refine t_callS X [] [] rfl mX1_154 (tc_allowed z.2.1 EV (¬ (U 30 (2 * (a + b - 1) + k).toNat) = 0)) rfl rfl (fun _ h => h.elim) (fun _ h => by cases h) rfl rfl (Nat.le_of_ble_eq_true rfl) (gFit.of hR (by decide) (Nat.le_of_ble_eq_true rfl) (Nat.le_of_ble_eq_true rfl)) (fun E h => t_out X hQ hE (by omega) (by omega) (Or.inr ⟨h.1, by omega, by omega⟩)) (fun v9 A9 U9 L9 h9 => ?_)
  obtain ⟨⟨rfl, h7, h8, rfl⟩, l14⟩ := h9
  obtain rfl := h7.symm
  obtain rfl := h8.symm
  refine t_eq (st' := []) rfl rfl ?_
  refine t_run X 2 (pc1 := 20) (ls1 := [_, _, _, _, _]) (st1 := [_, _]) rfl ?_
  refine t_pu30 X (hb := by omega) (x := 0) rfl fX1_294 (by omega) (show ¬ (14 : Nat) = 9 by decide) (fun _ h => nomatch h) ?_
  exact t_vret X hQ rfl rfl (by omega) (by omega) ⟨⟨rfl, rfl, rfl, rfl⟩, by omega⟩
set_option maxHeartbeats 1000000 in
theorem tc_trunkU (l : Launch) (EV : gEV) {A : gAd} {U : gV} {a b k : Int} (ha : inR a) (hb : inR b) (hk : inR k) (hI : uI U) : TC l yX1_trunk cX1_trunk 5 (some .int) 9 5 26 EV tSys [.ref (A 10 0), .int (iI a), .int (iI b), .int (iI k)] A U [] (fun w A9 U9 L9 => rV (some (.int (iI (uTrk U (2 * (a + b - 1) + k))))) A U [] w A9 U9 L9 ∧ isTk a b k) (fun E => E = cIAE ∧ ¬ isTk a b k) := by
  refine t_body tbX1_trunk tkX1_trunk (by decide) (by intro v hv; simp only [List.mem_cons, List.not_mem_nil, or_false] at hv; rcases hv with rfl | rfl | rfl | rfl <;> rfl) (Nat.le_of_ble_eq_true rfl) (fun M0 z Q X hl hR hQ hE => ?_)
  subst hl
  have hu := uIs hI
  unfold uS at hu
  refine t_eq (ls' := [some (.ref (A 10 0)), some (.int (iI a)), some (.int (iI b)), some (.int (iI k)), none]) (st' := []) rfl rfl ?_
  refine t_run X 4 (pc1 := 4) (ls1 := [_, _, _, _, _]) (st1 := [_, _, _, _]) rfl ?_
  refine t_callV X [] [] rfl mX1_290 (tc_trunkOf z.2.1 EV (a := a) (b := b) (k := k) (by omega) (by omega) (by omega) hI) (fun M h _ => ⟨_, _, h.1 (10, 0) _ sC_10⟩) rfl rfl (fun _ h => by rw [h]; show ¬ (_ : Nat) = 9; decide) (fun _ h => by cases h) rfl rfl (Nat.le_of_ble_eq_true rfl) (gFit.of hR (by decide) (Nat.le_of_ble_eq_true rfl) (Nat.le_of_ble_eq_true rfl)) (fun E h => t_out X hQ hE (by omega) (by omega) ⟨h.1, by have h2 := h.2; omega⟩) (fun v9 A9 U9 L9 h9 => ?_)
  obtain ⟨rfl, h7, h8, l4⟩ := h9
  obtain rfl := h7.symm
  obtain rfl := h8.symm
  refine t_drop ?_
  have b30 := uI30 hI (j := 2 * (a + b - 1) + k) (by omega) (by omega)
  have b9k := uI9 hI (j := 2 * (a + b - 1) + k) (by omega) (by omega)
  refine t_eq (st' := [.ref (A 14 ((2 * (a + b - 1) + k).toNat))]) rfl rfl ?_
  refine t_run X 2 (pc1 := 11) (ls1 := [_, _, _, _, _]) (st1 := [_]) rfl ?_
  refine t_get X (14, ((2 * (a + b - 1) + k).toNat)) (v := .int (iI (U 30 (2 * (a + b - 1) + k).toNat))) rfl fX1_294 (sC_14 (by omega)) rfl ?_
  refine t_br X (pc1 := 22) (st1 := []) rfl (fun b9 => ?_) (fun b9 => ?_)
  · have c14 : (U 30 (2 * (a + b - 1) + k).toNat) = 0 := cEq b9 (by omega) (by omega)
    refine t_run X 1 (pc1 := 24) (ls1 := [_, _, _, _, _]) (st1 := [_]) rfl ?_
    by_cases n1 : (U 9 (2 * (a + b - 1) + k).toNat) < 0
    · refine t_get X (14, ((2 * (a + b - 1) + k).toNat)) (v := .null) rfl fX1_297 (sC_14 (by omega)) (by show some (rfA A 13 (U 9 (2 * (a + b - 1) + k).toNat)) = _; rw [rfA_0 n1]) ?_
      refine t_run X 3 (pc1 := 42) (ls1 := [_, _, _, _, _]) (st1 := [_]) rfl ?_
      exact t_iret X hQ rfl rfl (by omega) (by omega) ⟨⟨by rw [uTrk, if_neg (by omega), if_pos (by omega)], rfl, rfl, rfl⟩, by omega⟩
    · refine t_get X (14, ((2 * (a + b - 1) + k).toNat)) (v := .ref (A 13 ((U 9 (2 * (a + b - 1) + k).toNat).toNat))) rfl fX1_297 (sC_14 (by omega)) (by show some (rfA A 13 (U 9 (2 * (a + b - 1) + k).toNat)) = _; rw [rfA_1 n1]) ?_
      refine t_run X 2 (pc1 := 36) (ls1 := [_, _, _, _, _]) (st1 := [_]) rfl ?_
      refine t_get X (14, ((2 * (a + b - 1) + k).toNat)) (v := .ref (A 13 ((U 9 (2 * (a + b - 1) + k).toNat).toNat))) rfl fX1_297 (sC_14 (by omega)) (by show some (rfA A 13 (U 9 (2 * (a + b - 1) + k).toNat)) = _; rw [rfA_1 n1]) ?_
      refine t_get X (13, ((U 9 (2 * (a + b - 1) + k).toNat).toNat)) (v := .int (iI (((U 9 (2 * (a + b - 1) + k).toNat).toNat : Nat) : Int))) rfl fX1_218 (sC_13 (by first | omega | (show _ < U 43 0; omega) | (simp [vS]; omega))) rfl ?_
      exact t_iret X hQ rfl rfl (by omega) (by omega) ⟨⟨by rw [uTrk, if_neg (by omega), if_neg (by omega)]; congr 3; omega, rfl, rfl, rfl⟩, by omega⟩
  · have c14 : ¬ (U 30 (2 * (a + b - 1) + k).toNat) = 0 := cNq b9 (by omega) (by omega)
    refine t_run X 2 (pc1 := 42) (ls1 := [_, _, _, _, _]) (st1 := [_]) rfl ?_
    exact t_iret X hQ rfl rfl (by omega) (by omega) ⟨⟨by rw [uTrk, if_pos (by omega)], rfl, rfl, rfl⟩, by omega⟩
