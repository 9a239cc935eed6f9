/-! THE SYSTEM's methods walked: what is found -/
section
variable {z : gZ} {S : gS} {EV : gEV} {Q : State → Prop} {M0 : gM} {T : gTag → Prop} {A : gAd} {U : gV} {L : gLL} {k n pc idx d mc ms : Nat} {ls : List (Option Value)} {st : List Value}
theorem t_min (X : CX z S EV) {x y v : Int} (hT : S.2.2.2.2.1 pc = some (.invokestatic idx, 3)) (hk : Cond.methodLink S.2.1 idx ⟨"java/lang/Math", "min", "(II)I"⟩ ∈ lw_all) (hR : z.2.2.2.1 = gRm (d + 1) mc ms) (hw : (st.map fun v => v.category).sum ≤ 8) (hc : k ≤ mc) (hs : n ≤ ms) (hx : inR x) (hy : inR y) (hv : (if y < x then y else x) = v)
    (kk : gTd z S EV Q T M0 A U L k n (pc + 3) ls (.int (iI v) :: st)) : gTd z S EV Q T M0 A U L k n pc ls (.int (iI y) :: .int (iI x) :: st) :=
  fun M h1 h2 h3 => g_min X hT hk hR hw hc hs hx hy (by rw [hv]; exact kk M h1 h2 h3)
end
theorem min_x (x y : Int) : ∃ v : Int, (if y < x then y else x) = v ∧ v ≤ x ∧ v ≤ y ∧ (v = x ∨ v = y) := by
  by_cases h : y < x
  · exact ⟨y, if_pos h, by omega, by omega, Or.inr rfl⟩
  · exact ⟨x, if_neg h, by omega, by omega, Or.inl rfl⟩
abbrev uFit (U : gV) (g w : Int) : Prop := U 4 w.toNat = -1 ∨ U 4 w.toNat = g ∨ U 8 (4 * U 4 w.toNat + g).toNat = 1
abbrev uAt (U : gV) (a k : Int) : Int := U 7 (6 * a + (U 6 a.toNat - 1 - k)).toNat
def uFi (U : gV) (g a : Int) (s0 : Int × Int) : Nat → Int × Int
  | 0 => s0
  | k + 1 => if ((k : Int) < (uFi U g a s0 k).2 ∧ (k : Int) < U 6 a.toNat) ∧ U 5 (uAt U a k).toNat < 0 ∧ uFit U g (uAt U a k) then (uAt U a k, (k : Int)) else uFi U g a s0 k
def uFo (U : gV) (y g : Int) : Nat → Int × Int
  | 0 => (-1, 6)
  | t + 1 => uFi U g (5 * y + (t : Int)) (uFo U y g t) 6
def uFind (U : gV) (y g : Int) : Int := (uFo U y g 5).1
theorem uFi_s {U : gV} {g a : Int} {s0 : Int × Int} {k : Nat} (h : (uFi U g a s0 k).2 ≤ k ∨ U 6 a.toNat ≤ k) (n : Nat) : uFi U g a s0 (k + n) = uFi U g a s0 k := by
  induction n with
  | zero => rfl
  | succ n ih => rw [← Nat.add_assoc, uFi, ih, if_neg (by omega)]
theorem uFi_r {U : gV} (hI : uI U) {g a : Int} (ha : 0 ≤ a ∧ a < 15) {s0 : Int × Int} (h0 : (0 ≤ s0.2 ∧ s0.2 ≤ 6) ∧ -1 ≤ s0.1 ∧ s0.1 < U 2 0) (k : Nat) : (0 ≤ (uFi U g a s0 k).2 ∧ (uFi U g a s0 k).2 ≤ 6) ∧ -1 ≤ (uFi U g a s0 k).1 ∧ (uFi U g a s0 k).1 < U 2 0 := by
  induction k with
  | zero => exact h0
  | succ k ih =>
    have h6 := uI6 hI (j := a) (by omega) (by omega)
    rw [uFi]
    split
    · rename_i h9
      have h7 : 0 ≤ uAt U a k ∧ uAt U a k < U 2 0 := uI7 hI (a := a) (k := U 6 a.toNat - 1 - (k : Int)) (by omega) (by omega) (by omega) (by omega)
      show (0 ≤ (k : Int) ∧ (k : Int) ≤ 6) ∧ -1 ≤ uAt U a k ∧ uAt U a k < U 2 0
      omega
    · exact ih
theorem uFo_r {U : gV} (hI : uI U) {y g : Int} (hy : 0 ≤ y ∧ y ≤ 2) (t : Nat) (ht : t ≤ 5) : (0 ≤ (uFo U y g t).2 ∧ (uFo U y g t).2 ≤ 6) ∧ -1 ≤ (uFo U y g t).1 ∧ (uFo U y g t).1 < U 2 0 := by
  induction t with
  | zero =>
    have hu := uIs hI
    unfold uS at hu
    show (0 ≤ (6 : Int) ∧ (6 : Int) ≤ 6) ∧ -1 ≤ (-1 : Int) ∧ (-1 : Int) < U 2 0
    omega
  | succ t ih => exact uFi_r hI (by omega) (ih (by omega)) 6
theorem tc_llgetA (l : Launch) (EV : gEV) {A : gAd} {U : gV} {p k : Int} (hp : 0 ≤ p ∧ p < 15) (hk : 0 ≤ k ∧ k < U 6 p.toNat) : TC l yJ7_get cJ7_get 2 (some (.object "java/lang/Object")) 3 0 0 EV tF [.ref (A 24 p.toNat), .int (iI (U 6 p.toNat - 1 - k))] A U [] (rV (some (.ref (A 11 (uAt U p k).toNat))) A U []) rNo := by
  have h := tc_llgetT l EV (A := A) (U := U) (i := p.toNat) (by omega) (x := U 6 p.toNat - 1 - k) (by omega)
  rw [show 6 * p.toNat + (U 6 p.toNat - 1 - k).toNat = (6 * p + (U 6 p.toNat - 1 - k)).toNat by omega] at h
  exact h
theorem t_retrf {z : gZ} {EV : gEV} {Q : State → Prop} {M0 : gM} {A : gAd} {U : gV} {y g : Int} (X : CX z (cX1_found_2, yX1_found_2.cls, 9, (some (.object "TrunkYards$Wagon")), tbX1_found_2, yX1_found_2.name) EV)
    (hQ : Q = gTe z EV tF M0 A U (fun w A9 U9 L9 => rV (some (rfA A 11 (uFind U y g))) A U [] w A9 U9 L9) rNo 0 0) {d : Nat} (hR : z.2.2.2.1 = gRm d 0 0) :
    gTd z (cX1_found_2, yX1_found_2.cls, 9, (some (.object "TrunkYards$Wagon")), tbX1_found_2, yX1_found_2.name) EV Q tF M0 A U [] 0 0 108 [some (.ref (A 10 0)), some (.int (iI y)), some (.int (iI g)), some (rfA A 11 (uFo U y g 5).1), some (.int (iI (uFo U y g 5).2)), some (.int (iI ((5 : Nat) : Int))), none, none, none] [] := by
  have hv : rfA A 11 (uFind U y g) = .null ∨ ∃ a, rfA A 11 (uFind U y g) = .ref a := by
    unfold rfA; split
    · exact Or.inl rfl
    · exact Or.inr ⟨_, rfl⟩
  by_cases hn : (uFo U y g 5).1 < 0
  · refine t_eq (ls' := [some (.ref (A 10 0)), some (.int (iI y)), some (.int (iI g)), some .null, some (.int (iI (uFo U y g 5).2)), some (.int (iI ((5 : Nat) : Int))), none, none, none]) (st' := []) (by rw [rfA_0 hn]) rfl ?_
    refine t_run X 1 (pc1 := 109) (ls1 := [_, _, _, _, _, _, _, _, _]) (st1 := [_]) rfl ?_
    exact t_aret X hQ rfl rfl (Or.inl ⟨_, rfl⟩) (Or.inl rfl) (by omega) (by omega) ⟨by rw [uFind, rfA_0 hn], rfl, rfl, rfl⟩
  · refine t_eq (ls' := [some (.ref (A 10 0)), some (.int (iI y)), some (.int (iI g)), some (.ref (A 11 (uFo U y g 5).1.toNat)), some (.int (iI (uFo U y g 5).2)), some (.int (iI ((5 : Nat) : Int))), none, none, none]) (st' := []) (by rw [rfA_1 hn]) rfl ?_
    refine t_run X 1 (pc1 := 109) (ls1 := [_, _, _, _, _, _, _, _, _]) (st1 := [_]) rfl ?_
    exact t_aret X hQ rfl rfl (Or.inl ⟨_, rfl⟩) (Or.inr ⟨_, rfl⟩) (by omega) (by omega) ⟨by rw [uFind, rfA_1 hn], rfl, rfl, rfl⟩
set_option maxHeartbeats 1000000 in
theorem tc_foundW (l : Launch) (EV : gEV) {A : gAd} {U : gV} {y g : Int} (hy2 : 0 ≤ y ∧ y ≤ 2) (hg2 : 0 ≤ g ∧ g ≤ 3) (hI : uI U) : TC l yX1_found_2 cX1_found_2 9 (some (.object "TrunkYards$Wagon")) 6 0 0 EV tF [.ref (A 10 0), .int (iI y), .int (iI g)] A U [] (fun w A9 U9 L9 => rV (some (rfA A 11 (uFind U y g))) A U [] w A9 U9 L9) (rNo) := by
  refine t_body tbX1_found_2 tkX1_found_2 (by decide) (by intro v hv; simp only [List.mem_cons, List.not_mem_nil, or_false] at hv; rcases hv with rfl | rfl | rfl <;> rfl) (Nat.le_of_ble_eq_true rfl) (fun M0 z Q X hl hR hQ hE => ?_)
  subst hl
  have hu := uIs hI
  unfold uS at hu
  have inner : ∀ (tr : Nat) (s0 : Int × Int), tr < 5 → ((0 ≤ s0.2 ∧ s0.2 ≤ 6) ∧ -1 ≤ s0.1 ∧ s0.1 < U 2 0) → gTd z (cX1_found_2, yX1_found_2.cls, 9, (some (.object "TrunkYards$Wagon")), tbX1_found_2, yX1_found_2.name) EV Q tF M0 A U [] 0 0 102 [some (.ref (A 10 0)), some (.int (iI y)), some (.int (iI g)), some (rfA A 11 ((uFi U g (5 * y + (tr : Int)) s0 6).1)), some (.int (iI ((uFi U g (5 * y + (tr : Int)) s0 6).2))), some (.int (iI (tr : Int))), some (.ref (A 24 ((5 * y + (tr : Int)).toNat))), none, none] [] → ∀ j k : Nat, k + j = 6 → gTd z (cX1_found_2, yX1_found_2.cls, 9, (some (.object "TrunkYards$Wagon")), tbX1_found_2, yX1_found_2.name) EV Q tF M0 A U [] 0 0 36 [some (.ref (A 10 0)), some (.int (iI y)), some (.int (iI g)), some (rfA A 11 ((uFi U g (5 * y + (tr : Int)) s0 k).1)), some (.int (iI ((uFi U g (5 * y + (tr : Int)) s0 k).2))), some (.int (iI (tr : Int))), some (.ref (A 24 ((5 * y + (tr : Int)).toNat))), some (.int (iI (k : Int))), none] [] := by
    intro tr s0 htr hs0 kk j
    induction j with
    | zero =>
      intro k hk
      have h6 := uI6 hI (j := (5 * y + (tr : Int))) (by omega) (by omega)
      have hr := uFi_r hI (g := g) (a := (5 * y + (tr : Int))) (by omega) hs0 k
      refine t_run X 3 (pc1 := 42) (ls1 := [_, _, _, _, _, _, _, _, _]) (st1 := [_, _, _]) rfl ?_
      refine t_callV X [] [] rfl mX1_78 (tc_llsizeN z.2.1 EV (i := (5 * y + (tr : Int)).toNat) (by unfold llL; omega) (n := (U 6 (5 * y + (tr : Int)).toNat)) (llN_t (by omega)) (by omega)) (fun M h _ => gLk_at (h.2.2 ((5 * y + (tr : Int)).toNat) (by unfold llL; first | omega | (show _ ∨ _ < U 45 0; omega)))) rfl rfl (fun _ h => h.elim) (fun _ _ h => h) rfl rfl (Nat.le_of_ble_eq_true rfl) (gFit.of hR (by decide) (Nat.le_of_ble_eq_true rfl) (Nat.le_of_ble_eq_true rfl)) (fun _ h => h.elim) (fun v9 A9 U9 L9 h9 => ?_)
      obtain ⟨rfl, h7, h8, rfl⟩ := h9
      obtain rfl := h7.symm
      obtain rfl := h8.symm
      refine t_eq (st' := [.int (iI (U 6 (5 * y + (tr : Int)).toNat)), .int (iI ((uFi U g (5 * y + (tr : Int)) s0 k).2)), .int (iI (k : Int))]) rfl rfl ?_
      obtain ⟨mn, hm0, hm1, hm2, hm3⟩ := min_x ((uFi U g (5 * y + (tr : Int)) s0 k).2) (U 6 (5 * y + (tr : Int)).toNat)
      refine t_min X rfl q1928 hR (Nat.le_of_ble_eq_true rfl) (Nat.le_of_ble_eq_true rfl) (Nat.le_of_ble_eq_true rfl) (by omega) (by omega) hm0 ?_
      refine t_br X (pc1 := 102) (st1 := []) rfl (fun b9 => ?_) (fun b9 => ?_)
      · have c48 : mn ≤ (k : Int) := cLe b9 (by omega) (by omega)
        have e9 : uFi U g (5 * y + (tr : Int)) s0 6 = (uFi U g (5 * y + (tr : Int)) s0 k) := by have e8 := uFi_s (U := U) (g := g) (a := (5 * y + (tr : Int))) (s0 := s0) (k := k) (by omega) (6 - k); rwa [show k + (6 - k) = 6 by omega] at e8
        rw [← e9]
        exact t_forget [true, true, true, true, true, true, true, false, false] rfl kk
      · have c48 : (k : Int) < mn := cNe b9 (by omega) (by omega)
        exact absurd c48 (by omega)
    | succ j ih =>
      intro k hk
      have h6 := uI6 hI (j := (5 * y + (tr : Int))) (by omega) (by omega)
      have hr := uFi_r hI (g := g) (a := (5 * y + (tr : Int))) (by omega) hs0 k
      refine t_run X 3 (pc1 := 42) (ls1 := [_, _, _, _, _, _, _, _, _]) (st1 := [_, _, _]) rfl ?_
      refine t_callV X [] [] rfl mX1_78 (tc_llsizeN z.2.1 EV (i := (5 * y + (tr : Int)).toNat) (by unfold llL; omega) (n := (U 6 (5 * y + (tr : Int)).toNat)) (llN_t (by omega)) (by omega)) (fun M h _ => gLk_at (h.2.2 ((5 * y + (tr : Int)).toNat) (by unfold llL; first | omega | (show _ ∨ _ < U 45 0; omega)))) rfl rfl (fun _ h => h.elim) (fun _ _ h => h) rfl rfl (Nat.le_of_ble_eq_true rfl) (gFit.of hR (by decide) (Nat.le_of_ble_eq_true rfl) (Nat.le_of_ble_eq_true rfl)) (fun _ h => h.elim) (fun v9 A9 U9 L9 h9 => ?_)
      obtain ⟨rfl, h7, h8, rfl⟩ := h9
      obtain rfl := h7.symm
      obtain rfl := h8.symm
      refine t_eq (st' := [.int (iI (U 6 (5 * y + (tr : Int)).toNat)), .int (iI ((uFi U g (5 * y + (tr : Int)) s0 k).2)), .int (iI (k : Int))]) rfl rfl ?_
      obtain ⟨mn, hm0, hm1, hm2, hm3⟩ := min_x ((uFi U g (5 * y + (tr : Int)) s0 k).2) (U 6 (5 * y + (tr : Int)).toNat)
      refine t_min X rfl q1928 hR (Nat.le_of_ble_eq_true rfl) (Nat.le_of_ble_eq_true rfl) (Nat.le_of_ble_eq_true rfl) (by omega) (by omega) hm0 ?_
      refine t_br X (pc1 := 102) (st1 := []) rfl (fun b9 => ?_) (fun b9 => ?_)
      · have c48 : mn ≤ (k : Int) := cLe b9 (by omega) (by omega)
        have e9 : uFi U g (5 * y + (tr : Int)) s0 6 = (uFi U g (5 * y + (tr : Int)) s0 k) := by have e8 := uFi_s (U := U) (g := g) (a := (5 * y + (tr : Int))) (s0 := s0) (k := k) (by omega) (6 - k); rwa [show k + (6 - k) = 6 by omega] at e8
        rw [← e9]
        exact t_forget [true, true, true, true, true, true, true, false, false] rfl kk
      · have c48 : (k : Int) < mn := cNe b9 (by omega) (by omega)
        have h7 : 0 ≤ (uAt U (5 * y + (tr : Int)) (k : Int)) ∧ (uAt U (5 * y + (tr : Int)) (k : Int)) < U 2 0 := uI7 hI (a := (5 * y + (tr : Int))) (k := U 6 (5 * y + (tr : Int)).toNat - 1 - (k : Int)) (by omega) (by omega) (by omega) (by omega)
        refine t_run X 2 (pc1 := 55) (ls1 := [_, _, _, _, _, _, _, _, _]) (st1 := [_, _]) rfl ?_
        refine t_callV X [] [] rfl mX1_78 (tc_llsizeN z.2.1 EV (i := (5 * y + (tr : Int)).toNat) (by unfold llL; omega) (n := (U 6 (5 * y + (tr : Int)).toNat)) (llN_t (by omega)) (by omega)) (fun M h _ => gLk_at (h.2.2 ((5 * y + (tr : Int)).toNat) (by unfold llL; first | omega | (show _ ∨ _ < U 45 0; omega)))) rfl rfl (fun _ h => h.elim) (fun _ _ h => h) rfl rfl (Nat.le_of_ble_eq_true rfl) (gFit.of hR (by decide) (Nat.le_of_ble_eq_true rfl) (Nat.le_of_ble_eq_true rfl)) (fun _ h => h.elim) (fun v9 A9 U9 L9 h9 => ?_)
        obtain ⟨rfl, h7, h8, rfl⟩ := h9
        obtain rfl := h7.symm
        obtain rfl := h8.symm
        refine t_eq (st' := [.int (iI (U 6 (5 * y + (tr : Int)).toNat)), .ref (A 24 ((5 * y + (tr : Int)).toNat))]) rfl rfl ?_
        refine t_run X 4 (pc1 := 63) (ls1 := [_, _, _, _, _, _, _, _, _]) (st1 := [_, _]) rfl ?_
        refine t_eq (ls' := [some (.ref (A 10 0)), some (.int (iI y)), some (.int (iI g)), some (rfA A 11 ((uFi U g (5 * y + (tr : Int)) s0 k).1)), some (.int (iI ((uFi U g (5 * y + (tr : Int)) s0 k).2))), some (.int (iI (tr : Int))), some (.ref (A 24 ((5 * y + (tr : Int)).toNat))), some (.int (iI (k : Int))), none]) (st' := [.int (iI (((U 6 (5 * y + (tr : Int)).toNat) - 1) - (k : Int))), .ref (A 24 ((5 * y + (tr : Int)).toNat))]) (by first | rfl | (simp only [iI_add, iI_sub, iI_mul, iI_neg]; done) | (simp only [iI_add, iI_sub, iI_mul, iI_neg] <;> rfl)) (by first | rfl | (simp only [iI_add, iI_sub, iI_mul, iI_neg]; done) | (simp only [iI_add, iI_sub, iI_mul, iI_neg] <;> rfl)) ?_
        refine t_callV X [] [] rfl mX1_88 (tc_llgetA z.2.1 EV (p := (5 * y + (tr : Int))) (k := (k : Int)) (by omega) (by omega)) (fun M h _ => gLk_at (h.2.2 ((5 * y + (tr : Int)).toNat) (by unfold llL; first | omega | (show _ ∨ _ < U 45 0; omega)))) rfl rfl (fun _ h => h.elim) (fun _ _ h => h) rfl rfl (Nat.le_of_ble_eq_true rfl) (gFit.of hR (by decide) (Nat.le_of_ble_eq_true rfl) (Nat.le_of_ble_eq_true rfl)) (fun _ h => h.elim) (fun v9 A9 U9 L9 h9 => ?_)
        obtain ⟨rfl, h7, h8, rfl⟩ := h9
        obtain rfl := h7.symm
        obtain rfl := h8.symm
        refine t_eq (st' := [.ref (A 11 ((uAt U (5 * y + (tr : Int)) (k : Int)).toNat))]) rfl rfl ?_
        refine t_cast X rfl kX1_69_7 (fun M h _ => ⟨_, _, h.1 (11, ((uAt U (5 * y + (tr : Int)) (k : Int)).toNat)) _ (sC_11 (by first | omega | (show _ < U 41 0; omega) | (simp [vS]; omega)))⟩) ?_
        refine t_run X 1 (pc1 := 71) (ls1 := [_, _, _, _, _, _, _, _, _]) (st1 := []) rfl ?_
        have h5 := uI5 hI (j := (uAt U (5 * y + (tr : Int)) (k : Int))) (by omega) (by omega)
        refine t_run X 1 (pc1 := 73) (ls1 := [_, _, _, _, _, _, _, _, _]) (st1 := [_]) rfl ?_
        by_cases n1 : (U 5 (uAt U (5 * y + (tr : Int)) (k : Int)).toNat) < 0
        · refine t_get X (11, ((uAt U (5 * y + (tr : Int)) (k : Int)).toNat)) (v := .null) rfl fX1_89 (sC_11 (by first | omega | (show _ < U 41 0; omega) | (simp [vS]; omega))) (by show some (rfA A 12 (U 5 (uAt U (5 * y + (tr : Int)) (k : Int)).toNat)) = _; rw [rfA_0 n1]) ?_
          refine t_run X 4 (pc1 := 83) (ls1 := [_, _, _, _, _, _, _, _, _]) (st1 := [_, _, _]) rfl ?_
          refine t_callV X [] [] rfl mX1_93 (tc_fitsU z.2.1 EV (w := (uAt U (5 * y + (tr : Int)) (k : Int))) (g := g) (by omega) (by omega) hI) (fun M h _ => ⟨_, _, h.1 (10, 0) _ sC_10⟩) rfl rfl (fun _ h => h.elim) (fun _ _ h => h) rfl rfl (Nat.le_of_ble_eq_true rfl) (gFit.of hR (by decide) (Nat.le_of_ble_eq_true rfl) (Nat.le_of_ble_eq_true rfl)) (fun _ h => h.elim) (fun v9 A9 U9 L9 h9 => ?_)
          obtain ⟨rfl, h7, h8, rfl⟩ := h9
          obtain rfl := h7.symm
          obtain rfl := h8.symm
          refine t_eq (st' := [.int (iI (bI (uFit U g (uAt U (5 * y + (tr : Int)) (k : Int)))))]) rfl rfl ?_
          refine t_br X (pc1 := 96) (st1 := []) rfl (fun b9 => ?_) (fun b9 => ?_)
          · have c86 : ¬ (uFit U g (uAt U (5 * y + (tr : Int)) (k : Int))) := bI_f b9
            refine t_run X 2 (pc1 := 36) (ls1 := [_, _, _, _, _, _, _, _, _]) (st1 := []) rfl ?_
            refine t_eq (ls' := [some (.ref (A 10 0)), some (.int (iI y)), some (.int (iI g)), some (rfA A 11 ((uFi U g (5 * y + (tr : Int)) s0 k).1)), some (.int (iI ((uFi U g (5 * y + (tr : Int)) s0 k).2))), some (.int (iI (tr : Int))), some (.ref (A 24 ((5 * y + (tr : Int)).toNat))), some (.int (iI ((k : Int) + 1))), some (.ref (A 11 ((uAt U (5 * y + (tr : Int)) (k : Int)).toNat)))]) (st' := []) (by first | rfl | (simp only [iI_add, iI_sub, iI_mul, iI_neg]; done) | (simp only [iI_add, iI_sub, iI_mul, iI_neg] <;> rfl)) (by first | rfl | (simp only [iI_add, iI_sub, iI_mul, iI_neg]; done) | (simp only [iI_add, iI_sub, iI_mul, iI_neg] <;> rfl)) ?_
            have e9 : uFi U g (5 * y + (tr : Int)) s0 (k + 1) = (uFi U g (5 * y + (tr : Int)) s0 k) := by rw [uFi, if_neg (fun h => c86 h.2.2)]
            have h9 := ih (k + 1) (by omega)
            rw [e9] at h9
            exact t_forget [true, true, true, true, true, true, true, true, false] rfl h9
          · have c86 : uFit U g (uAt U (5 * y + (tr : Int)) (k : Int)) := bI_t b9
            refine t_run X 6 (pc1 := 36) (ls1 := [_, _, _, _, _, _, _, _, _]) (st1 := []) rfl ?_
            refine t_eq (ls' := [some (.ref (A 10 0)), some (.int (iI y)), some (.int (iI g)), some (.ref (A 11 ((uAt U (5 * y + (tr : Int)) (k : Int)).toNat))), some (.int (iI (k : Int))), some (.int (iI (tr : Int))), some (.ref (A 24 ((5 * y + (tr : Int)).toNat))), some (.int (iI ((k : Int) + 1))), some (.ref (A 11 ((uAt U (5 * y + (tr : Int)) (k : Int)).toNat)))]) (st' := []) (by first | rfl | (simp only [iI_add, iI_sub, iI_mul, iI_neg]; done) | (simp only [iI_add, iI_sub, iI_mul, iI_neg] <;> rfl)) (by first | rfl | (simp only [iI_add, iI_sub, iI_mul, iI_neg]; done) | (simp only [iI_add, iI_sub, iI_mul, iI_neg] <;> rfl)) ?_
            have e9 : uFi U g (5 * y + (tr : Int)) s0 (k + 1) = ((uAt U (5 * y + (tr : Int)) (k : Int)), (k : Int)) := by rw [uFi, if_pos ⟨⟨by omega, by omega⟩, by omega, c86⟩]
            have h9 := ih (k + 1) (by omega)
            rw [e9] at h9
            refine t_eq (ls' := [some (.ref (A 10 0)), some (.int (iI y)), some (.int (iI g)), some (rfA A 11 (uAt U (5 * y + (tr : Int)) (k : Int))), some (.int (iI (k : Int))), some (.int (iI (tr : Int))), some (.ref (A 24 (5 * y + (tr : Int)).toNat)), some (.int (iI ((k + 1 : Nat) : Int))), some (.ref (A 11 (uAt U (5 * y + (tr : Int)) (k : Int)).toNat))]) (st' := []) (by rw [rfA_1 (by omega)]; rfl) rfl ?_
            exact t_forget [true, true, true, true, true, true, true, true, false] rfl h9
        · refine t_get X (11, ((uAt U (5 * y + (tr : Int)) (k : Int)).toNat)) (v := .ref (A 12 ((U 5 (uAt U (5 * y + (tr : Int)) (k : Int)).toNat).toNat))) rfl fX1_89 (sC_11 (by first | omega | (show _ < U 41 0; omega) | (simp [vS]; omega))) (by show some (rfA A 12 (U 5 (uAt U (5 * y + (tr : Int)) (k : Int)).toNat)) = _; rw [rfA_1 n1]) ?_
          refine t_run X 3 (pc1 := 36) (ls1 := [_, _, _, _, _, _, _, _, _]) (st1 := []) rfl ?_
          refine t_eq (ls' := [some (.ref (A 10 0)), some (.int (iI y)), some (.int (iI g)), some (rfA A 11 ((uFi U g (5 * y + (tr : Int)) s0 k).1)), some (.int (iI ((uFi U g (5 * y + (tr : Int)) s0 k).2))), some (.int (iI (tr : Int))), some (.ref (A 24 ((5 * y + (tr : Int)).toNat))), some (.int (iI ((k : Int) + 1))), some (.ref (A 11 ((uAt U (5 * y + (tr : Int)) (k : Int)).toNat)))]) (st' := []) (by first | rfl | (simp only [iI_add, iI_sub, iI_mul, iI_neg]; done) | (simp only [iI_add, iI_sub, iI_mul, iI_neg] <;> rfl)) (by first | rfl | (simp only [iI_add, iI_sub, iI_mul, iI_neg]; done) | (simp only [iI_add, iI_sub, iI_mul, iI_neg] <;> rfl)) ?_
          have e9 : uFi U g (5 * y + (tr : Int)) s0 (k + 1) = (uFi U g (5 * y + (tr : Int)) s0 k) := by rw [uFi, if_neg (fun h => by omega)]
          have h9 := ih (k + 1) (by omega)
          rw [e9] at h9
          exact t_forget [true, true, true, true, true, true, true, true, false] rfl h9
  have outer : ∀ (j tr : Nat), tr + j = 5 → gTd z (cX1_found_2, yX1_found_2.cls, 9, (some (.object "TrunkYards$Wagon")), tbX1_found_2, yX1_found_2.name) EV Q tF M0 A U [] 0 0 9 [some (.ref (A 10 0)), some (.int (iI y)), some (.int (iI g)), some (rfA A 11 ((uFo U y g tr).1)), some (.int (iI ((uFo U y g tr).2))), some (.int (iI ((tr : Nat) : Int))), none, none, none] [] := by
    intro j
    induction j with
    | zero =>
      intro tr htr
      refine t_run X 2 (pc1 := 12) (ls1 := [_, _, _, _, _, _, _, _, _]) (st1 := [_, _]) rfl ?_
      refine t_br X (pc1 := 108) (st1 := []) rfl (fun b9 => ?_) (fun b9 => ?_)
      · have c12 : 5 ≤ ((tr : Nat) : Int) := cLe b9 (by omega) (by omega)
        have e9 : tr = 5 := by omega
        subst e9
        exact t_retrf X hQ hR
      · have c12 : ((tr : Nat) : Int) < 5 := cNe b9 (by omega) (by omega)
        exact absurd c12 (by omega)
    | succ j ih =>
      intro tr htr
      refine t_run X 2 (pc1 := 12) (ls1 := [_, _, _, _, _, _, _, _, _]) (st1 := [_, _]) rfl ?_
      refine t_br X (pc1 := 108) (st1 := []) rfl (fun b9 => ?_) (fun b9 => ?_)
      · have c12 : 5 ≤ ((tr : Nat) : Int) := cLe b9 (by omega) (by omega)
        exact absurd c12 (by omega)
      · have c12 : ((tr : Nat) : Int) < 5 := cNe b9 (by omega) (by omega)
        refine t_run X 1 (pc1 := 16) (ls1 := [_, _, _, _, _, _, _, _, _]) (st1 := [_]) rfl ?_
        refine t_get X (10, 0) (v := .ref (A 30 0)) rfl fX1_10 sC_10 rfl ?_
        refine t_run X 5 (pc1 := 25) (ls1 := [_, _, _, _, _, _, _, _, _]) (st1 := [_, _]) rfl ?_
        refine t_eq (ls' := [some (.ref (A 10 0)), some (.int (iI y)), some (.int (iI g)), some (rfA A 11 ((uFo U y g tr).1)), some (.int (iI ((uFo U y g tr).2))), some (.int (iI ((tr : Nat) : Int))), none, none, none]) (st' := [.int (iI ((5 * y) + ((tr : Nat) : Int))), .ref (A 30 0)]) (by first | rfl | (simp only [iI_add, iI_sub, iI_mul, iI_neg]; done) | (simp only [iI_add, iI_sub, iI_mul, iI_neg] <;> rfl)) (by first | rfl | (simp only [iI_add, iI_sub, iI_mul, iI_neg]; done) | (simp only [iI_add, iI_sub, iI_mul, iI_neg] <;> rfl)) ?_
        refine t_callV X [] [] rfl mX1_74 (tc_algetN z.2.1 EV (i := 0) (n := 15) (by unfold alL; omega) rfl (by omega) (x := ((5 * y) + ((tr : Nat) : Int))) (by omega) rfl) (fun M h _ => gAL_at (h.2.1 0 (by unfold alL; omega))) rfl rfl (fun _ h => h.elim) (fun _ _ h => h) rfl rfl (Nat.le_of_ble_eq_true rfl) (gFit.of hR (by decide) (Nat.le_of_ble_eq_true rfl) (Nat.le_of_ble_eq_true rfl)) (fun _ h => h.elim) (fun v9 A9 U9 L9 h9 => ?_)
        obtain ⟨rfl, h7, h8, rfl⟩ := h9
        obtain rfl := h7.symm
        obtain rfl := h8.symm
        refine t_eq (st' := [.ref (A 24 (((5 * y) + ((tr : Nat) : Int)).toNat))]) rfl rfl ?_
        refine t_cast X rfl kX1_47_2 (fun M h _ => gLk_at (h.2.2 (((5 * y) + ((tr : Nat) : Int)).toNat) (by unfold llL; first | omega | (show _ ∨ _ < U 45 0; omega)))) ?_
        refine t_run X 3 (pc1 := 36) (ls1 := [_, _, _, _, _, _, _, _, _]) (st1 := []) rfl ?_
        refine t_eq (ls' := [some (.ref (A 10 0)), some (.int (iI y)), some (.int (iI g)), some (rfA A 11 ((uFo U y g tr).1)), some (.int (iI ((uFo U y g tr).2))), some (.int (iI (tr : Int))), some (.ref (A 24 ((5 * y + (tr : Int)).toNat))), some (.int (iI ((0 : Nat) : Int))), none]) (st' := []) rfl rfl ?_
        refine inner tr (uFo U y g tr) (by omega) (uFo_r hI hy2 tr (by omega)) ?_ 6 0 (by omega)
        refine t_run X 2 (pc1 := 9) (ls1 := [_, _, _, _, _, _, _, _, _]) (st1 := []) rfl ?_
        refine t_eq (ls' := [some (.ref (A 10 0)), some (.int (iI y)), some (.int (iI g)), some (rfA A 11 ((uFo U y g (tr + 1)).1)), some (.int (iI ((uFo U y g (tr + 1)).2))), some (.int (iI ((tr + 1 : Nat) : Int))), some (.ref (A 24 ((5 * y + (tr : Int)).toNat))), none, none]) (st' := []) (by simp only [iI_add]; rfl) rfl ?_
        exact t_forget [true, true, true, true, true, true, false, false, false] rfl (ih (tr + 1) (by omega))
  refine t_eq (ls' := [some (.ref (A 10 0)), some (.int (iI y)), some (.int (iI g)), none, none, none, none, none, none]) (st' := []) rfl rfl ?_
  refine t_run X 6 (pc1 := 9) (ls1 := [_, _, _, _, _, _, _, _, _]) (st1 := []) rfl ?_
  refine t_eq (ls' := [some (.ref (A 10 0)), some (.int (iI y)), some (.int (iI g)), some (rfA A 11 ((uFo U y g 0).1)), some (.int (iI ((uFo U y g 0).2))), some (.int (iI ((0 : Nat) : Int))), none, none, none]) (st' := []) rfl rfl ?_
  exact outer 5 0 (by omega)
