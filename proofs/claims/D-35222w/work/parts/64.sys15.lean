/-! THE SYSTEM's methods walked: replays -/
section GT
variable {z : gZ} {S : gS} {EV : gEV} {Q : State → Prop} {M0 : gM} {T T' : gTag → Prop} {A : gAd} {U : gV} {L L' : gLL} {k n pc idx : Nat} {ls : List (Option Value)} {st rest As : List Value}
theorem t_mputF (X : CX z S EV) {ci j a : Nat} {ty : FieldType} {t : gTag} {fs fs' : List Value} {v : Value} (hT : S.2.2.2.2.1 pc = some (.putfield idx, 3)) (hin : S.2.2.2.2.2 = "<init>") (F : gFld S.2.1 idx ci j ty 1) (hL : (a, t, .inr (ci, fs)) ∈ L) (hn : narrow ty v = v) (hf : fits ty v = true) (hj : j < fs.length) (hfs : fs.set j v = fs') (hTt : T t) (hl : 70 ≤ t.1 ∧ t.1 < 100)
    (hL' : ∀ x ∈ L', x = (a, t, .inr (ci, fs')) ∨ (x ∈ L ∧ ¬ x.2.1 = t)) (kk : gTd z S EV Q T M0 A U L' k n (pc + 3) ls st) : gTd z S EV Q T M0 A U L k n pc ls (v :: .ref a :: st) := by
  intro M h1 h2 h3
  subst hfs
  exact g_putF X hT hin F (h2 _ hL) hn hf hj rfl (kk _ (h1.loc (gFr.up (h2 _ hL) rfl : gFr (tO t) M _) (tO_loc hl)) (mL_up h2 hL hL') (h3.upT (h2 _ hL) hTt))
end GT
theorem hd_set {a : Nat} {t : gTag} {e e' : va_E} {R : gLL} (h : ∀ x ∈ R, ¬ x.2.1 = t) : ∀ x ∈ ((a, t, e') :: R), x = (a, t, e') ∨ (x ∈ ((a, t, e) :: R) ∧ ¬ x.2.1 = t) := by
  intro x hx
  rcases List.mem_cons.mp hx with hx | hx
  · exact Or.inl hx
  · exact Or.inr ⟨List.mem_cons_of_mem _ hx, h x hx⟩
theorem rowL_t {q : Nat} {t tr u : gTag} {cA cI : ClassId} {N K : Nat} (h1 : ¬ t = u) (h2 : ¬ tr.1 = u.1) : ∀ x ∈ rowL q t tr cA cI N K, ¬ x.2.1 = u := by
  intro x hx
  rcases List.mem_cons.mp hx with hx | hx
  · subst hx; exact h1
  · obtain ⟨j, hj, rfl⟩ := List.mem_map.mp hx
    exact fun e => h2 (by rw [← e])
theorem ap_t {R : gLL} {u t : gTag} {a : Nat} {e : va_E} (h : ∀ x ∈ R, ¬ x.2.1 = u) (h1 : ¬ t = u) : ∀ x ∈ R ++ [(a, t, e)], ¬ x.2.1 = u := by
  intro x hx
  rcases List.mem_append.mp hx with hx | hx
  · exact h x hx
  · obtain rfl := List.mem_singleton.mp hx
    exact h1
/-- where a replay's cells lie at first -/
def rpB (q qa qs qt : Nat) : gAd := fun k j => if k = 78 then q else if k = 79 then qa else if k = 80 then qa + 1 + j else if k = 81 then qs else qt
theorem rp_start {EV : gEV} {A : gAd} {q qa qs qt NT : Nat} : ∀ x ∈ rpL EV A (rpB q qa qs qt) (fun _ _ => 0) NT, x ∈ ((q, (78, 0), .inr (13, [.ref qa, .ref qs, .ref qt, .int 0, .ref (A 10 0)])) :: ((rowL qa (79, 0) (80, 0) (EV.2.1 5) (EV.2.1 0) 15 6 ++ [(qs, (81, 0), .inl (EV.2.1 0, 15, .inl (fun _ => 0)))]) ++ [(qt, (82, 0), .inl (EV.2.1 5, NT, refs (fun _ => none)))]) : gLL) := by
  have e0 : iI 0 = 0 := rfl
  refine rp_el ?_ ?_ ?_ ?_ (fun j hj => ?_) (fun j hj => absurd hj (by show ¬ (j : Int) < 0; omega))
  · exact List.mem_cons_self ..
  · exact List.mem_cons_of_mem _ (List.mem_append_left _ (List.mem_append_left _ (List.mem_cons_self ..)))
  · exact List.mem_cons_of_mem _ (List.mem_append_left _ (List.mem_append_right _ (List.mem_singleton.mpr rfl)))
  · refine List.mem_cons_of_mem _ (List.mem_append_right _ (List.mem_singleton.mpr ?_))
    unfold rpC3
    congr 6
    all_goals (funext j; rw [if_neg (by show ¬ (j : Int) < 0; omega)])
  · refine List.mem_cons_of_mem _ (List.mem_append_left _ (List.mem_append_left _ (List.mem_cons_of_mem _ (List.mem_map.mpr ⟨j, List.mem_range.mpr hj, ?_⟩))))
    unfold rpR
    show (qa + 1 + j, (80, 0 + j), _) = (qa + 1 + j, (80, j), _)
    rw [Nat.zero_add]
    congr 6
    funext i
    split <;> rfl
/-- the cell at tag t is c now -/
def repl (L : gLL) (t : gTag) (c : Nat × gTag × va_E) : gLL := L.map (fun y => if y.2.1 = t then c else y)
theorem repl_el {L : gLL} {t : gTag} {c : Nat × gTag × va_E} : ∀ x ∈ repl L t c, x = c ∨ (x ∈ L ∧ ¬ x.2.1 = t) := by
  intro x hx
  obtain ⟨y, hy, rfl⟩ := List.mem_map.mp hx
  by_cases h : y.2.1 = t
  · rw [if_pos h]; exact Or.inl rfl
  · rw [if_neg h]; exact Or.inr ⟨hy, h⟩
theorem repl_n {L : gLL} {t : gTag} {c y : Nat × gTag × va_E} (h : y ∈ L) (hn : ¬ y.2.1 = t) : y ∈ repl L t c := List.mem_map.mpr ⟨y, h, if_neg hn⟩
theorem repl_s {L : gLL} {t : gTag} {c y : Nat × gTag × va_E} (h : y ∈ L) (hn : y.2.1 = t) : c ∈ repl L t c := List.mem_map.mpr ⟨y, h, if_pos hn⟩
theorem nt1 {a b i j : Nat} (h : ¬ a = b) : ¬ ((a, i) : gTag) = (b, j) := fun e => h (congrArg Prod.fst e)
/-- the trains' rows, once train d has one at q9 -/
def rpF3 (B : gAd) (V : gV) (q9 : Nat) : Nat → Option Nat := va_up (fun j => if (j : Int) < V 25 0 then some (B 83 j) else none) (V 25 0).toNat (some q9)
def rpF9 (V : gV) (p : Int) : Nat → Int32 := va_cpy (fun i => if i < 6 then iI (V 7 (6 * p.toNat + i)) else 0) (fun _ => 0) 0 0 (V 6 p.toNat).toNat
def rpD1 (EV : gEV) (A B : gAd) (V : gV) (NT q9 : Nat) (p : Int) : gLL := rpL EV A B V NT ++ [(q9, (83, (V 25 0).toNat), .inl (EV.2.1 0, (V 6 p.toNat).toNat, .inl (fun _ => 0)))]
def rpD2 (EV : gEV) (A B : gAd) (V : gV) (NT q9 : Nat) (p : Int) : gLL := repl (rpD1 EV A B V NT q9 p) (82, 0) (B 82 0, (82, 0), .inl (EV.2.1 5, NT, refs (rpF3 B V q9)))
def rpD3 (EV : gEV) (A B : gAd) (V : gV) (NT q9 : Nat) (p : Int) : gLL := repl (rpD2 EV A B V NT q9 p) (83, (V 25 0).toNat) (q9, (83, (V 25 0).toNat), .inl (EV.2.1 0, (V 6 p.toNat).toNat, .inl (rpF9 V p)))
def rpD4 (EV : gEV) (A B : gAd) (V : gV) (NT q9 : Nat) (p : Int) : gLL := repl (rpD3 EV A B V NT q9 p) (81, 0) (rpC2 EV B (vS V 6 p.toNat 0))
def rpD5 (EV : gEV) (A B : gAd) (V : gV) (NT q9 : Nat) (p : Int) : gLL := repl (rpD4 EV A B V NT q9 p) (78, 0) (B 78 0, (78, 0), .inr (13, [.ref (B 79 0), .ref (B 81 0), .ref (B 82 0), .int (iI (V 25 0 + 1)), .ref (A 10 0)]))
section
variable {EV : gEV} {A B : gAd} {V : gV} {NT q9 : Nat} {p : Int}
theorem rd1 {x : Nat × gTag × va_E} (h : x ∈ rpL EV A B V NT) : x ∈ rpD1 EV A B V NT q9 p := List.mem_append_left _ h
theorem rd1s : (q9, (83, (V 25 0).toNat), Sum.inl (EV.2.1 0, (V 6 p.toNat).toNat, .inl (fun _ => 0))) ∈ rpD1 EV A B V NT q9 p := List.mem_append_right _ (List.mem_singleton.mpr rfl)
theorem rd2 {x : Nat × gTag × va_E} (h : x ∈ rpL EV A B V NT) (h1 : ¬ x.2.1.1 = 82) : x ∈ rpD2 EV A B V NT q9 p := repl_n (rd1 h) (fun e => h1 (congrArg Prod.fst e))
theorem rd2s : (q9, (83, (V 25 0).toNat), Sum.inl (EV.2.1 0, (V 6 p.toNat).toNat, .inl (fun _ => 0))) ∈ rpD2 EV A B V NT q9 p := repl_n rd1s (nt1 (by decide))
theorem rd2t : (B 82 0, (82, 0), Sum.inl (EV.2.1 5, NT, refs (rpF3 B V q9))) ∈ rpD2 EV A B V NT q9 p := repl_s (rd1 rp_m3) rfl
theorem rd3 {x : Nat × gTag × va_E} (h : x ∈ rpL EV A B V NT) (h1 : ¬ x.2.1.1 = 82) (h2 : ¬ x.2.1 = (83, (V 25 0).toNat)) : x ∈ rpD3 EV A B V NT q9 p := repl_n (rd2 h h1) h2
theorem rd3s : (q9, (83, (V 25 0).toNat), Sum.inl (EV.2.1 0, (V 6 p.toNat).toNat, .inl (rpF9 V p))) ∈ rpD3 EV A B V NT q9 p := repl_s rd2s rfl
theorem rd3t : (B 82 0, (82, 0), Sum.inl (EV.2.1 5, NT, refs (rpF3 B V q9))) ∈ rpD3 EV A B V NT q9 p := repl_n rd2t (nt1 (by decide))
theorem rd4 {x : Nat × gTag × va_E} (h : x ∈ rpL EV A B V NT) (h1 : ¬ x.2.1.1 = 82) (h2 : ¬ x.2.1 = (83, (V 25 0).toNat)) (h3 : ¬ x.2.1.1 = 81) : x ∈ rpD4 EV A B V NT q9 p := repl_n (rd3 h h1 h2) (fun e => h3 (congrArg Prod.fst e))
theorem rp_dep (h0 : 0 ≤ V 25 0) (hn : 0 ≤ V 6 p.toNat ∧ V 6 p.toNat ≤ 6) (hp : 0 ≤ p ∧ p < 15) (h28 : ∀ j : Nat, (j : Int) < V 25 0 → V 28 j ≤ 6) : ∀ x ∈ rpL EV A (aS B 83 (V 25 0).toNat q9) (rDp V p) NT, x ∈ rpD5 EV A B V NT q9 p := by
  have e25 : rDp V p 25 0 = V 25 0 + 1 := vS_s
  refine rp_el ?_ ?_ ?_ ?_ (fun j hj => ?_) (fun j hj => ?_)
  · have e : rpC0 A (aS B 83 (V 25 0).toNat q9) (rDp V p) = (B 78 0, (78, 0), .inr (13, [.ref (B 79 0), .ref (B 81 0), .ref (B 82 0), .int (iI (V 25 0 + 1)), .ref (A 10 0)])) := by
      unfold rpC0
      rw [e25]
      rfl
    rw [e]
    exact repl_s (rd4 rp_m0 (Nat.ne_of_beq_eq_false rfl) (nt1 (by decide)) (Nat.ne_of_beq_eq_false rfl)) rfl
  · exact repl_n (rd4 (x := rpC1 EV B) rp_m1 (Nat.ne_of_beq_eq_false rfl) (nt1 (by decide)) (Nat.ne_of_beq_eq_false rfl)) (nt1 (by decide))
  · have e : rpC2 EV (aS B 83 (V 25 0).toNat q9) (rDp V p) = rpC2 EV B (vS V 6 p.toNat 0) := by
      unfold rpC2
      show (B 81 0, _, _) = (B 81 0, _, _)
      congr 6
      funext j
      show iI (vS _ 6 p.toNat 0 6 j) = _
      by_cases hj : j = p.toNat
      · subst hj; rw [vS_s, vS_s]
      · rw [vS_i hj, vS_i hj, vS_k (by decide), uRo_k (by decide)]
    rw [e]
    exact repl_n (repl_s (rd3 (x := rpC2 EV B V) rp_m2 (Nat.ne_of_beq_eq_false rfl) (nt1 (by decide))) rfl) (nt1 (by decide))
  · have e : rpC3 EV (aS B 83 (V 25 0).toNat q9) (rDp V p) NT = (B 82 0, (82, 0), .inl (EV.2.1 5, NT, refs (rpF3 B V q9))) := by
      unfold rpC3
      show (B 82 0, _, _) = (B 82 0, _, _)
      congr 6
      funext j
      unfold rpF3 va_up
      rw [e25]
      by_cases hj : j = (V 25 0).toNat
      · rw [if_pos hj, if_pos (by omega), hj, aS_s]
      · rw [if_neg hj]
        show _ = (if (j : Int) < V 25 0 then some (B 83 j) else none)
        by_cases hl : (j : Int) < V 25 0
        · rw [if_pos hl, if_pos (by omega), aS_n (Or.inr hj)]
        · rw [if_neg hl, if_neg (by omega)]
    rw [e]
    exact repl_n (repl_n rd3t (nt1 (by decide))) (nt1 (by decide))
  · have e : rpR EV (aS B 83 (V 25 0).toNat q9) (rDp V p) j = rpR EV B V j := by
      unfold rpR
      show (B 80 j, _, _) = (B 80 j, _, _)
      congr 6
      funext i
      show (if i < 6 then iI (uRo V (V 25 0) p (V 6 p.toNat).toNat 7 (6 * j + i)) else 0) = _
      rw [uRo_k (by decide)]
    rw [e]
    exact repl_n (rd4 (rp_mR hj) (Nat.ne_of_beq_eq_false rfl) (nt1 (by decide)) (Nat.ne_of_beq_eq_false rfl)) (nt1 (by decide))
  · rw [e25] at hj
    by_cases hjd : j = (V 25 0).toNat
    · have e28 : rDp V p 28 j = V 6 p.toNat := by
        show vS _ 28 (V 25 0).toNat (V 6 p.toNat) 28 j = _
        rw [hjd, vS_s]
      have e : rpT EV (aS B 83 (V 25 0).toNat q9) (rDp V p) j = (q9, (83, (V 25 0).toNat), .inl (EV.2.1 0, (V 6 p.toNat).toNat, .inl (rpF9 V p))) := by
        unfold rpT
        rw [e28, hjd, aS_s]
        congr 6
        funext i
        unfold rpF9 va_cpy
        by_cases hi : (i : Int) < V 6 p.toNat
        · rw [if_pos hi, if_pos (by omega)]
          show _ = (if 0 + (i - 0) < 6 then iI (V 7 (6 * p.toNat + (0 + (i - 0)))) else 0)
          rw [if_pos (by omega)]
          show iI (uRo V (V 25 0) p (V 6 p.toNat).toNat 29 (6 * (V 25 0).toNat + i)) = _
          rw [show 6 * (V 25 0).toNat + i = (6 * V 25 0 + (i : Int)).toNat by omega, uRo_s h0 _ i (by omega), show (6 * p + (i : Int)).toNat = 6 * p.toNat + (0 + (i - 0)) by omega]
        · rw [if_neg hi, if_neg (by omega)]
      rw [e]
      exact repl_n (repl_n rd3s (nt1 (by decide))) (nt1 (by decide))
    · have e28 : rDp V p 28 j = V 28 j := by
        show vS _ 28 (V 25 0).toNat (V 6 p.toNat) 28 j = _
        rw [vS_i hjd, uRo_k (by decide)]
      have hl : (j : Int) < V 25 0 := by omega
      have hin : rpT EV B V j ∈ rpD5 EV A B V NT q9 p := repl_n (rd4 (rp_mT hl) (Nat.ne_of_beq_eq_false rfl) (fun e => hjd (congrArg Prod.snd e)) (Nat.ne_of_beq_eq_false rfl)) (nt1 (by decide))
      have hw := h28 j hl
      have e : rpT EV (aS B 83 (V 25 0).toNat q9) (rDp V p) j = rpT EV B V j := by
        unfold rpT
        rw [e28, aS_n (Or.inr hjd)]
        congr 6
        funext i
        by_cases hi : (i : Int) < V 28 j
        · rw [if_pos hi, if_pos hi]
          show iI (uRo V (V 25 0) p (V 6 p.toNat).toNat 29 (6 * j + i)) = _
          rw [uRo_n _ (fun j9 h9 => by omega)]
        · rw [if_neg hi, if_neg hi]
      rw [e]
      exact hin
end
set_option maxHeartbeats 1000000 in
theorem tc_rput (l : Launch) (EV : gEV) {A : gAd} {U : gV} {B : gAd} {V : gV} {NT : Nat} {p w : Int} (hp : 0 ≤ p ∧ p < 15) (hn : 0 ≤ V 6 p.toNat ∧ V 6 p.toNat < 6) : TC l yX8_put cX8_put 3 none 2 0 0 EV tRp [.ref (B 78 0), .int (iI p), .int (iI w)] A U (rpL EV A B V NT) (rV none A U (rpL EV A B (uPut V p w) NT)) (rNo) := by
  refine t_body tbX8_put tkX8_put (by decide) (by intro v hv; simp only [List.mem_cons, List.not_mem_nil, or_false] at hv; rcases hv with rfl | rfl | rfl <;> rfl) (Nat.le_of_ble_eq_true rfl) (fun M0 z Q X hl hR hQ hE => ?_)
  subst hl
  refine t_eq (ls' := [some (.ref (B 78 0)), some (.int (iI p)), some (.int (iI w))]) (st' := []) rfl rfl ?_
  refine t_run X 1 (pc1 := 1) (ls1 := [_, _, _]) (st1 := [_]) rfl ?_
  refine t_mget X (v := .ref (B 79 0)) rfl fX8_17 rp_m0 rfl ?_
  refine t_run X 1 (pc1 := 5) (ls1 := [_, _, _]) (st1 := [_, _]) rfl ?_
  refine t_maald X (j := p.toNat) (v := .ref (B 80 p.toNat)) rfl rp_m1 (gIx_i (z := p) (by omega) (by omega)) (by show va_rf (if p.toNat < 15 then _ else _) = _; rw [if_pos (by omega)]; rfl) ?_
  refine t_run X 1 (pc1 := 7) (ls1 := [_, _, _]) (st1 := [_, _]) rfl ?_
  refine t_mget X (v := .ref (B 81 0)) rfl fX8_20 rp_m0 rfl ?_
  refine t_run X 1 (pc1 := 11) (ls1 := [_, _, _]) (st1 := [_, _, _]) rfl ?_
  refine t_miald X (j := p.toNat) (v := iI (V 6 p.toNat)) rfl rp_m2 (gIx_i (z := p) (by omega) (by omega)) rfl ?_
  refine t_run X 1 (pc1 := 13) (ls1 := [_, _, _]) (st1 := [_, _, _]) rfl ?_
  refine t_miast X (L' := (rpL EV A B (vS V 7 (6 * p + (V 6 p.toNat)).toNat w) NT)) rfl (rp_mR (j := p.toNat) (by omega)) (gIx_i (z := (V 6 p.toNat)) (by omega) (by omega)) (rp_f7 (by omega) (by omega)) ⟨Nat.le_of_ble_eq_true rfl, Nat.le_of_ble_eq_true rfl⟩ (by show 70 ≤ 80 ∧ 80 < 100; decide) (rp_w7 (by omega) (by omega)) ?_
  refine t_run X 1 (pc1 := 15) (ls1 := [_, _, _]) (st1 := [_]) rfl ?_
  refine t_mget X (v := .ref (B 81 0)) rfl fX8_20 rp_m0 rfl ?_
  refine t_run X 2 (pc1 := 20) (ls1 := [_, _, _]) (st1 := [_, _, _, _]) rfl ?_
  refine t_miald X (j := p.toNat) (v := iI ((vS V 7 (6 * p + (V 6 p.toNat)).toNat w) 6 p.toNat)) rfl rp_m2 (gIx_i (z := p) (by omega) (by omega)) rfl ?_
  refine t_run X 2 (pc1 := 23) (ls1 := [_, _, _]) (st1 := [_, _, _]) rfl ?_
  refine t_eq (ls' := [some (.ref (B 78 0)), some (.int (iI p)), some (.int (iI w))]) (st' := [.int (iI (((vS V 7 (6 * p + (V 6 p.toNat)).toNat w) 6 p.toNat) + 1)), .int (iI p), .ref (B 81 0)]) (by first | rfl | (simp only [iI_add, iI_sub, iI_mul, iI_neg]; done) | (simp only [iI_add, iI_sub, iI_mul, iI_neg] <;> rfl)) (by first | rfl | (simp only [iI_add, iI_sub, iI_mul, iI_neg]; done) | (simp only [iI_add, iI_sub, iI_mul, iI_neg] <;> rfl)) ?_
  refine t_miast X (L' := (rpL EV A B (vS (vS V 7 (6 * p + (V 6 p.toNat)).toNat w) 6 p.toNat (((vS V 7 (6 * p + (V 6 p.toNat)).toNat w) 6 p.toNat) + 1)) NT)) rfl rp_m2 (gIx_i (z := p) (by omega) (by omega)) rp_f6 ⟨Nat.le_of_ble_eq_true rfl, Nat.le_of_ble_eq_true rfl⟩ (by decide) rp_w6 ?_
  exact t_vret X hQ rfl rfl (by omega) (by omega) ⟨rfl, rfl, rfl, rfl⟩
set_option maxHeartbeats 1000000 in
theorem tc_replay (l : Launch) (EV : gEV) {A : gAd} {U : gV} {q : Nat} (hRP : uRp U) (hI : uI U) : TC l yX8_init cX8_init 12 none 7 100 600 EV tRp [.ref q, .ref (A 10 0)] A U [(q, (78, 0), .inr (13, [.null, .null, .null, .int 0, .null]))] (fun w A9 U9 L9 => (w = none ∧ A9 = A ∧ U9 = U) ∧ ∃ B : gAd, B 78 0 = q ∧ L9 = rpL EV A B (rp U (U 33 0).toNat) (U 25 0).toNat) (rNo) := by
  refine t_body tbX8_init tkX8_init (by decide) (by intro v hv; simp only [List.mem_cons, List.not_mem_nil, or_false] at hv; rcases hv with rfl | rfl <;> rfl) (Nat.le_of_ble_eq_true rfl) (fun M0 z Q X hl hR hQ hE => ?_)
  subst hl
  have hu := uIs hI
  unfold uS at hu
  have in1 : ∀ (B : gAd) (V : gV) (k kc kn : Nat), kc ≤ 100 → kn ≤ 600 → sC EV A U (16, k) = some (.inr (12, [.int (iI (U 35 k)), .int (iI (U 36 k)), .int (iI (U 37 k))])) → ((0 ≤ U 35 k ∧ U 35 k < 15) ∧ (0 ≤ U 36 k ∧ U 36 k < 15) ∧ ¬ U 35 k = U 36 k ∧ (0 ≤ U 37 k ∧ U 37 k ≤ 6) ∧ (0 ≤ V 6 (U 35 k).toNat ∧ V 6 (U 35 k).toNat + U 37 k ≤ 6) ∧ 0 ≤ V 6 (U 36 k).toNat ∧ V 6 (U 36 k).toNat + U 37 k ≤ 6) → gTd z (cX8_init, yX8_init.cls, 12, none, tbX8_init, yX8_init.name) EV Q tRp M0 A U (rpL EV A B (rSh V (U 35 k) (U 36 k) (U 37 k).toNat) ((U 25 0).toNat)) kc kn 343 [some (.ref (B 78 0)), some (.ref (A 10 0)), some (.int (iI ((k : Nat) : Int))), some (.ref (A 16 k)), none, none, none, none, none, none, none, none] [] → ∀ (j i : Nat), (i : Int) + j = U 37 k → gTd z (cX8_init, yX8_init.cls, 12, none, tbX8_init, yX8_init.name) EV Q tRp M0 A U (rpL EV A B (rSh V (U 35 k) (U 36 k) i) ((U 25 0).toNat)) kc kn 135 [some (.ref (B 78 0)), some (.ref (A 10 0)), some (.int (iI ((k : Nat) : Int))), some (.ref (A 16 k)), none, some (.ref (A 16 k)), none, none, some (.int (iI ((i : Nat) : Int))), none, none, none] [] := by
    intro B V k kc kn hkc hkn hs hB kk9 j
    induction j with
    | zero =>
      intro i hi
      refine t_run X 2 (pc1 := 139) (ls1 := [_, _, _, _, _, _, _, _, _, _, _, _]) (st1 := [_, _]) rfl ?_
      refine t_get X (16, k) (v := .int (iI (U 37 k))) rfl fX8_65 hs rfl ?_
      refine t_br X (pc1 := 184) (st1 := []) rfl (fun b9 => ?_) (fun b9 => ?_)
      · have c142 : (U 37 k) ≤ ((i : Nat) : Int) := cLe b9 (by omega) (by omega)
        refine t_run X 1 (pc1 := 343) (ls1 := [_, _, _, _, _, _, _, _, _, _, _, _]) (st1 := []) rfl ?_
        have e9 : i = (U 37 k).toNat := by omega
        subst e9
        exact t_forget [true, true, true, true, false, false, false, false, false, false, false, false] rfl kk9
      · have c142 : ((i : Nat) : Int) < (U 37 k) := cNe b9 (by omega) (by omega)
        exact absurd c142 (by omega)
    | succ j ih =>
      intro i hi
      have w6f : (rSh V (U 35 k) (U 36 k) i) 6 (U 35 k).toNat = V 6 (U 35 k).toNat := rSh_6n (by omega) i
      have w6p : (rSh V (U 35 k) (U 36 k) i) 6 (U 36 k).toNat = V 6 (U 36 k).toNat + i := rSh_6 i
      refine t_run X 2 (pc1 := 139) (ls1 := [_, _, _, _, _, _, _, _, _, _, _, _]) (st1 := [_, _]) rfl ?_
      refine t_get X (16, k) (v := .int (iI (U 37 k))) rfl fX8_65 hs rfl ?_
      refine t_br X (pc1 := 184) (st1 := []) rfl (fun b9 => ?_) (fun b9 => ?_)
      · have c142 : (U 37 k) ≤ ((i : Nat) : Int) := cLe b9 (by omega) (by omega)
        exact absurd c142 (by omega)
      · have c142 : ((i : Nat) : Int) < (U 37 k) := cNe b9 (by omega) (by omega)
        refine t_run X 2 (pc1 := 148) (ls1 := [_, _, _, _, _, _, _, _, _, _, _, _]) (st1 := [_, _]) rfl ?_
        refine t_get X (16, k) (v := .int (iI (U 36 k))) rfl fX8_68 hs rfl ?_
        refine t_run X 1 (pc1 := 152) (ls1 := [_, _, _, _, _, _, _, _, _, _, _, _]) (st1 := [_, _, _]) rfl ?_
        refine t_mget X (v := .ref (B 79 0)) rfl fX8_17 rp_m0 rfl ?_
        refine t_run X 1 (pc1 := 157) (ls1 := [_, _, _, _, _, _, _, _, _, _, _, _]) (st1 := [_, _, _, _]) rfl ?_
        refine t_get X (16, k) (v := .int (iI (U 35 k))) rfl fX8_62 hs rfl ?_
        refine t_maald X (j := (U 35 k).toNat) (v := .ref (B 80 (U 35 k).toNat)) rfl rp_m1 (gIx_i (z := (U 35 k)) (by omega) (by omega)) (by show va_rf (if (U 35 k).toNat < 15 then _ else _) = _; rw [if_pos (by omega)]; rfl) ?_
        refine t_run X 1 (pc1 := 162) (ls1 := [_, _, _, _, _, _, _, _, _, _, _, _]) (st1 := [_, _, _, _]) rfl ?_
        refine t_mget X (v := .ref (B 81 0)) rfl fX8_20 rp_m0 rfl ?_
        refine t_run X 1 (pc1 := 167) (ls1 := [_, _, _, _, _, _, _, _, _, _, _, _]) (st1 := [_, _, _, _, _]) rfl ?_
        refine t_get X (16, k) (v := .int (iI (U 35 k))) rfl fX8_62 hs rfl ?_
        refine t_miald X (j := (U 35 k).toNat) (v := iI ((rSh V (U 35 k) (U 36 k) i) 6 (U 35 k).toNat)) rfl rp_m2 (gIx_i (z := (U 35 k)) (by omega) (by omega)) rfl ?_
        refine t_run X 2 (pc1 := 174) (ls1 := [_, _, _, _, _, _, _, _, _, _, _, _]) (st1 := [_, _, _, _]) rfl ?_
        refine t_eq (ls' := [some (.ref (B 78 0)), some (.ref (A 10 0)), some (.int (iI ((k : Nat) : Int))), some (.ref (A 16 k)), none, some (.ref (A 16 k)), none, none, some (.int (iI ((i : Nat) : Int))), none, none, none]) (st' := [.int (iI (((rSh V (U 35 k) (U 36 k) i) 6 (U 35 k).toNat) + ((i : Nat) : Int))), .ref (B 80 (U 35 k).toNat), .int (iI (U 36 k)), .ref (B 78 0)]) (by first | rfl | (simp only [iI_add, iI_sub, iI_mul, iI_neg]; done) | (simp only [iI_add, iI_sub, iI_mul, iI_neg] <;> rfl)) (by first | rfl | (simp only [iI_add, iI_sub, iI_mul, iI_neg]; done) | (simp only [iI_add, iI_sub, iI_mul, iI_neg] <;> rfl)) ?_
        refine t_miald X (j := (((rSh V (U 35 k) (U 36 k) i) 6 (U 35 k).toNat) + ((i : Nat) : Int)).toNat) (v := iI ((rSh V (U 35 k) (U 36 k) i) 7 (6 * (U 35 k) + (((rSh V (U 35 k) (U 36 k) i) 6 (U 35 k).toNat) + ((i : Nat) : Int))).toNat)) rfl (rp_mR (j := (U 35 k).toNat) (by omega)) (gIx_i (z := (((rSh V (U 35 k) (U 36 k) i) 6 (U 35 k).toNat) + ((i : Nat) : Int))) (by omega) (by omega)) (by show (if (((rSh V (U 35 k) (U 36 k) i) 6 (U 35 k).toNat) + ((i : Nat) : Int)).toNat < 6 then iI ((rSh V (U 35 k) (U 36 k) i) 7 (6 * (U 35 k).toNat + (((rSh V (U 35 k) (U 36 k) i) 6 (U 35 k).toNat) + ((i : Nat) : Int)).toNat)) else 0) = _; rw [if_pos (by omega), show 6 * (U 35 k).toNat + (((rSh V (U 35 k) (U 36 k) i) 6 (U 35 k).toNat) + ((i : Nat) : Int)).toNat = (6 * (U 35 k) + (((rSh V (U 35 k) (U 36 k) i) 6 (U 35 k).toNat) + ((i : Nat) : Int))).toNat by omega]) ?_
        refine t_callV X (List.range (rpL EV A B (rSh V (U 35 k) (U 36 k) i) ((U 25 0).toNat)).length) [] rfl mX8_56 (tc_rput z.2.1 EV (V := (rSh V (U 35 k) (U 36 k) i)) (p := (U 36 k)) (w := ((rSh V (U 35 k) (U 36 k) i) 7 (6 * (U 35 k) + (((rSh V (U 35 k) (U 36 k) i) 6 (U 35 k).toNat) + ((i : Nat) : Int))).toNat)) (by omega) (by omega)) (fun M _ h => ⟨_, _, h _ rp_m0⟩) (fm_all _) rfl (fun _ h => h) (fun _ h => nomatch h) rfl rfl (Nat.le_of_ble_eq_true rfl) (gFit.of hR (by decide) (by omega) (by omega)) (fun _ h => h.elim) (fun v9 A9 U9 L9 h9 => ?_)
        obtain ⟨rfl, h7, h8, rfl⟩ := h9
        obtain rfl := h7.symm
        obtain rfl := h8.symm
        refine t_eq (st' := []) rfl rfl ?_
        refine t_L (L' := (rpL EV A B (uPut (rSh V (U 35 k) (U 36 k) i) (U 36 k) ((rSh V (U 35 k) (U 36 k) i) 7 (6 * (U 35 k) + (((rSh V (U 35 k) (U 36 k) i) 6 (U 35 k).toNat) + ((i : Nat) : Int))).toNat)) ((U 25 0).toNat))) (List.append_nil _) ?_
        refine t_run X 2 (pc1 := 135) (ls1 := [_, _, _, _, _, _, _, _, _, _, _, _]) (st1 := []) rfl ?_
        refine t_eq (ls' := [some (.ref (B 78 0)), some (.ref (A 10 0)), some (.int (iI ((k : Nat) : Int))), some (.ref (A 16 k)), none, some (.ref (A 16 k)), none, none, some (.int (iI (((i : Nat) : Int) + 1))), none, none, none]) (st' := []) (by first | rfl | (simp only [iI_add, iI_sub, iI_mul, iI_neg]; done) | (simp only [iI_add, iI_sub, iI_mul, iI_neg] <;> rfl)) (by first | rfl | (simp only [iI_add, iI_sub, iI_mul, iI_neg]; done) | (simp only [iI_add, iI_sub, iI_mul, iI_neg] <;> rfl)) ?_
        refine t_L (L' := (rpL EV A B (rSh V (U 35 k) (U 36 k) (i + 1)) ((U 25 0).toNat))) (by rw [rSh, show 6 * U 35 k + (rSh V (U 35 k) (U 36 k) i) 6 (U 35 k).toNat + (i : Int) = 6 * U 35 k + ((rSh V (U 35 k) (U 36 k) i) 6 (U 35 k).toNat + (i : Int)) by omega]) ?_
        exact t_forget [true, true, true, true, true, true, true, true, true, true, true, true] rfl (ih (i + 1) (by omega))
  have in2 : ∀ (B : gAd) (V : gV) (k kc kn : Nat), kc ≤ 100 → kn ≤ 600 → sC EV A U (16, k) = some (.inr (20, [.int (iI (U 35 k)), .int (iI (U 36 k))])) → ((0 ≤ U 35 k ∧ U 35 k < V 25 0) ∧ V 25 0 ≤ 40 ∧ (0 ≤ U 36 k ∧ U 36 k < 15) ∧ (0 ≤ V 28 (U 35 k).toNat ∧ V 28 (U 35 k).toNat ≤ 6) ∧ 0 ≤ V 6 (U 36 k).toNat ∧ V 6 (U 36 k).toNat + V 28 (U 35 k).toNat ≤ 6) → gTd z (cX8_init, yX8_init.cls, 12, none, tbX8_init, yX8_init.name) EV Q tRp M0 A U (rpL EV A B (rAr V (U 35 k) (U 36 k) (V 28 (U 35 k).toNat).toNat) ((U 25 0).toNat)) kc kn 343 [some (.ref (B 78 0)), some (.ref (A 10 0)), some (.int (iI ((k : Nat) : Int))), some (.ref (A 16 k)), none, none, none, none, none, none, none, none] [] → ∀ (j i : Nat), (i : Int) + j = V 28 (U 35 k).toNat → gTd z (cX8_init, yX8_init.cls, 12, none, tbX8_init, yX8_init.name) EV Q tRp M0 A U (rpL EV A B (rAr V (U 35 k) (U 36 k) i) ((U 25 0).toNat)) kc kn 312 [some (.ref (B 78 0)), some (.ref (A 10 0)), some (.int (iI ((k : Nat) : Int))), some (.ref (A 16 k)), none, none, none, some (.ref (A 16 k)), some (.ref (B 83 (U 35 k).toNat)), some (.int (iI (V 28 (U 35 k).toNat))), some (.int (iI ((i : Nat) : Int))), none] [] := by
    intro B V k kc kn hkc hkn hs hB kk9 j
    induction j with
    | zero =>
      intro i hi
      refine t_run X 2 (pc1 := 316) (ls1 := [_, _, _, _, _, _, _, _, _, _, _, _]) (st1 := [_, _]) rfl ?_
      refine t_br X (pc1 := 343) (st1 := []) rfl (fun b9 => ?_) (fun b9 => ?_)
      · have c316 : (V 28 (U 35 k).toNat) ≤ ((i : Nat) : Int) := cLe b9 (by omega) (by omega)
        have e9 : i = (V 28 (U 35 k).toNat).toNat := by omega
        subst e9
        exact t_forget [true, true, true, true, false, false, false, false, false, false, false, false] rfl kk9
      · have c316 : ((i : Nat) : Int) < (V 28 (U 35 k).toNat) := cNe b9 (by omega) (by omega)
        exact absurd c316 (by omega)
    | succ j ih =>
      intro i hi
      have w28 : (rAr V (U 35 k) (U 36 k) i) 28 (U 35 k).toNat = V 28 (U 35 k).toNat := rAr_k (by decide) (by decide) i
      have w25 : (rAr V (U 35 k) (U 36 k) i) 25 0 = V 25 0 := rAr_k (by decide) (by decide) i
      have w29 : ∀ x, (rAr V (U 35 k) (U 36 k) i) 29 x = V 29 x := fun x => rAr_k (by decide) (by decide) i
      have w6p : (rAr V (U 35 k) (U 36 k) i) 6 (U 36 k).toNat = V 6 (U 36 k).toNat + i := rAr_6 i
      refine t_run X 2 (pc1 := 316) (ls1 := [_, _, _, _, _, _, _, _, _, _, _, _]) (st1 := [_, _]) rfl ?_
      refine t_br X (pc1 := 343) (st1 := []) rfl (fun b9 => ?_) (fun b9 => ?_)
      · have c316 : (V 28 (U 35 k).toNat) ≤ ((i : Nat) : Int) := cLe b9 (by omega) (by omega)
        exact absurd c316 (by omega)
      · have c316 : ((i : Nat) : Int) < (V 28 (U 35 k).toNat) := cNe b9 (by omega) (by omega)
        refine t_run X 2 (pc1 := 323) (ls1 := [_, _, _, _, _, _, _, _, _, _, _, _]) (st1 := [_, _]) rfl ?_
        refine t_miald X (j := ((i : Nat) : Int).toNat) (v := iI (V 29 (6 * (U 35 k) + ((i : Nat) : Int)).toNat)) rfl (rp_mT (j := (U 35 k).toNat) (by omega)) (gIx_i (z := ((i : Nat) : Int)) (by omega) (by omega)) (by show (if ((((i : Nat) : Int).toNat : Nat) : Int) < (rAr V (U 35 k) (U 36 k) i) 28 (U 35 k).toNat then iI ((rAr V (U 35 k) (U 36 k) i) 29 (6 * (U 35 k).toNat + ((i : Nat) : Int).toNat)) else 0) = _; rw [if_pos (by omega), show 6 * (U 35 k).toNat + ((i : Nat) : Int).toNat = (6 * (U 35 k) + ((i : Nat) : Int)).toNat by omega, w29]) ?_
        refine t_run X 3 (pc1 := 329) (ls1 := [_, _, _, _, _, _, _, _, _, _, _, _]) (st1 := [_, _]) rfl ?_
        refine t_get X (16, k) (v := .int (iI (U 36 k))) rfl fX8_88 hs rfl ?_
        refine t_run X 1 (pc1 := 334) (ls1 := [_, _, _, _, _, _, _, _, _, _, _, _]) (st1 := [_, _, _]) rfl ?_
        refine t_callV X (List.range (rpL EV A B (rAr V (U 35 k) (U 36 k) i) ((U 25 0).toNat)).length) [] rfl mX8_56 (tc_rput z.2.1 EV (V := (rAr V (U 35 k) (U 36 k) i)) (p := (U 36 k)) (w := (V 29 (6 * (U 35 k) + ((i : Nat) : Int)).toNat)) (by omega) (by omega)) (fun M _ h => ⟨_, _, h _ rp_m0⟩) (fm_all _) rfl (fun _ h => h) (fun _ h => nomatch h) rfl rfl (Nat.le_of_ble_eq_true rfl) (gFit.of hR (by decide) (by omega) (by omega)) (fun _ h => h.elim) (fun v9 A9 U9 L9 h9 => ?_)
        obtain ⟨rfl, h7, h8, rfl⟩ := h9
        obtain rfl := h7.symm
        obtain rfl := h8.symm
        refine t_eq (st' := []) rfl rfl ?_
        refine t_L (L' := (rpL EV A B (uPut (rAr V (U 35 k) (U 36 k) i) (U 36 k) (V 29 (6 * (U 35 k) + ((i : Nat) : Int)).toNat)) ((U 25 0).toNat))) (List.append_nil _) ?_
        refine t_run X 2 (pc1 := 312) (ls1 := [_, _, _, _, _, _, _, _, _, _, _, _]) (st1 := []) rfl ?_
        refine t_eq (ls' := [some (.ref (B 78 0)), some (.ref (A 10 0)), some (.int (iI ((k : Nat) : Int))), some (.ref (A 16 k)), none, none, none, some (.ref (A 16 k)), some (.ref (B 83 (U 35 k).toNat)), some (.int (iI (V 28 (U 35 k).toNat))), some (.int (iI (((i : Nat) : Int) + 1))), some (.int (iI (V 29 (6 * (U 35 k) + ((i : Nat) : Int)).toNat)))]) (st' := []) (by first | rfl | (simp only [iI_add, iI_sub, iI_mul, iI_neg]; done) | (simp only [iI_add, iI_sub, iI_mul, iI_neg] <;> rfl)) (by first | rfl | (simp only [iI_add, iI_sub, iI_mul, iI_neg]; done) | (simp only [iI_add, iI_sub, iI_mul, iI_neg] <;> rfl)) ?_
        refine t_L (L' := (rpL EV A B (rAr V (U 35 k) (U 36 k) (i + 1)) ((U 25 0).toNat))) rfl ?_
        exact t_forget [true, true, true, true, true, true, true, true, true, true, true, false] rfl (ih (i + 1) (by omega))
  have loop : ∀ (j k : Nat) (B : gAd), (k : Int) + j = U 33 0 → B 78 0 = q → ∀ kc kn : Nat, kc + j ≤ 90 → kn + 6 * j ≤ 560 → gTd z (cX8_init, yX8_init.cls, 12, none, tbX8_init, yX8_init.name) EV Q tRp M0 A U (rpL EV A B (rp U k) ((U 25 0).toNat)) kc kn 48 [some (.ref (B 78 0)), some (.ref (A 10 0)), some (.int (iI ((k : Nat) : Int))), none, none, none, none, none, none, none, none, none] [] := by
    intro j
    induction j with
    | zero =>
      intro k B hk hBq kc kn hkc hkn
      refine t_run X 2 (pc1 := 50) (ls1 := [_, _, _, _, _, _, _, _, _, _, _, _]) (st1 := [_, _]) rfl ?_
      refine t_get X (10, 0) (v := .ref (A 30 5)) rfl fX8_38 sC_10 rfl ?_
      refine t_callV X [] (List.range (rpL EV A B (rp U k) ((U 25 0).toNat)).length) rfl mX8_28 (tc_alsizeN z.2.1 EV (i := 5) (by unfold alL; omega) (n := U 33 0) rfl (by omega)) (fun M h _ => gAL_at (h.2.1 5 (by unfold alL; omega))) rfl (fm_all _) (fun _ h => h.elim) (fun _ _ h => h) rfl rfl (Nat.le_of_ble_eq_true rfl) (gFit.of hR (by decide) (by omega) (by omega)) (fun _ h => h.elim) (fun v9 A9 U9 L9 h9 => ?_)
      obtain ⟨rfl, h7, h8, rfl⟩ := h9
      obtain rfl := h7.symm
      obtain rfl := h8.symm
      refine t_eq (st' := [.int (iI (U 33 0)), .int (iI ((k : Nat) : Int))]) rfl rfl ?_
      refine t_L (L' := (rpL EV A B (rp U k) ((U 25 0).toNat))) rfl ?_
      refine t_br X (pc1 := 349) (st1 := []) rfl (fun b9 => ?_) (fun b9 => ?_)
      · have c56 : (U 33 0) ≤ ((k : Nat) : Int) := cLe b9 (by omega) (by omega)
        have e9 : k = (U 33 0).toNat := by omega
        subst e9
        exact t_vret X hQ rfl rfl (by omega) (by omega) ⟨⟨rfl, rfl, rfl⟩, B, hBq, rfl⟩
      · have c56 : ((k : Nat) : Int) < (U 33 0) := cNe b9 (by omega) (by omega)
        exact absurd c56 (by omega)
    | succ j ih =>
      intro k B hk hBq kc kn hkc hkn
      have fin : ∀ (B9 : gAd) (V9 : gV) (kc9 kn9 : Nat), B9 78 0 = q → V9 = rp U (k + 1) → kc9 + j ≤ 90 → kn9 + 6 * j ≤ 560 → gTd z (cX8_init, yX8_init.cls, 12, none, tbX8_init, yX8_init.name) EV Q tRp M0 A U (rpL EV A B9 V9 ((U 25 0).toNat)) kc9 kn9 343 [some (.ref (B9 78 0)), some (.ref (A 10 0)), some (.int (iI ((k : Nat) : Int))), some (.ref (A 16 k)), none, none, none, none, none, none, none, none] [] := by
        intro B9 V9 kc9 kn9 g1 g2 g3 g4
        subst g2
        refine t_run X 2 (pc1 := 48) (ls1 := [_, _, _, _, _, _, _, _, _, _, _, _]) (st1 := []) rfl ?_
        refine t_eq (ls' := [some (.ref (B9 78 0)), some (.ref (A 10 0)), some (.int (iI (((k : Nat) : Int) + 1))), some (.ref (A 16 k)), none, none, none, none, none, none, none, none]) (st' := []) (by simp only [iI_add, iI_sub, iI_mul, iI_neg]) (by simp only [iI_add, iI_sub, iI_mul, iI_neg]) ?_
        exact t_forget [true, true, true, false, false, false, false, false, false, false, false, false] rfl (ih (k + 1) B9 (by omega) g1 kc9 kn9 g3 g4)
      obtain ⟨V, hV⟩ : ∃ V : gV, rp U k = V := ⟨_, rfl⟩
      rw [hV]
      have hok := hRP k (by omega)
      rw [hV] at hok
      obtain ⟨ok, ok0, ok1, ok2, ok3⟩ := hok
      refine t_run X 2 (pc1 := 50) (ls1 := [_, _, _, _, _, _, _, _, _, _, _, _]) (st1 := [_, _]) rfl ?_
      refine t_get X (10, 0) (v := .ref (A 30 5)) rfl fX8_38 sC_10 rfl ?_
      refine t_callV X [] (List.range (rpL EV A B V ((U 25 0).toNat)).length) rfl mX8_28 (tc_alsizeN z.2.1 EV (i := 5) (by unfold alL; omega) (n := U 33 0) rfl (by omega)) (fun M h _ => gAL_at (h.2.1 5 (by unfold alL; omega))) rfl (fm_all _) (fun _ h => h.elim) (fun _ _ h => h) rfl rfl (Nat.le_of_ble_eq_true rfl) (gFit.of hR (by decide) (by omega) (by omega)) (fun _ h => h.elim) (fun v9 A9 U9 L9 h9 => ?_)
      obtain ⟨rfl, h7, h8, rfl⟩ := h9
      obtain rfl := h7.symm
      obtain rfl := h8.symm
      refine t_eq (st' := [.int (iI (U 33 0)), .int (iI ((k : Nat) : Int))]) rfl rfl ?_
      refine t_L (L' := (rpL EV A B V ((U 25 0).toNat))) rfl ?_
      refine t_br X (pc1 := 349) (st1 := []) rfl (fun b9 => ?_) (fun b9 => ?_)
      · have c56 : (U 33 0) ≤ ((k : Nat) : Int) := cLe b9 (by omega) (by omega)
        exact absurd c56 (by omega)
      · have c56 : ((k : Nat) : Int) < (U 33 0) := cNe b9 (by omega) (by omega)
        refine t_run X 1 (pc1 := 60) (ls1 := [_, _, _, _, _, _, _, _, _, _, _, _]) (st1 := [_]) rfl ?_
        refine t_get X (10, 0) (v := .ref (A 30 5)) rfl fX8_38 sC_10 rfl ?_
        refine t_run X 1 (pc1 := 64) (ls1 := [_, _, _, _, _, _, _, _, _, _, _, _]) (st1 := [_, _]) rfl ?_
        refine t_callV X [] (List.range (rpL EV A B V ((U 25 0).toNat)).length) rfl mX8_41 (tc_algetN z.2.1 EV (i := 5) (n := U 33 0) (by unfold alL; omega) rfl (by omega) (x := (k : Int)) (by omega) rfl) (fun M h _ => gAL_at (h.2.1 5 (by unfold alL; omega))) rfl (fm_all _) (fun _ h => h.elim) (fun _ _ h => h) rfl rfl (Nat.le_of_ble_eq_true rfl) (gFit.of hR (by decide) (by omega) (by omega)) (fun _ h => h.elim) (fun v9 A9 U9 L9 h9 => ?_)
        obtain ⟨rfl, h7, h8, rfl⟩ := h9
        obtain rfl := h7.symm
        obtain rfl := h8.symm
        refine t_eq (st' := [.ref (A 16 k)]) rfl rfl ?_
        refine t_L (L' := (rpL EV A B V ((U 25 0).toNat))) rfl ?_
        have h34 : 0 ≤ U 34 k ∧ U 34 k ≤ 3 := uI34 hI (j := (k : Int)) (by omega) (by omega)
        rcases (by omega : U 34 k = 0 ∨ U 34 k = 1 ∨ U 34 k = 2 ∨ U 34 k = 3) with hk9 | hk9 | hk9 | hk9
        · have hs : sC EV A U (16, k) = some (.inr (9, [.int (iI (U 35 k)), .int (iI (U 36 k))])) := (sC_16 (by omega)).trans (by unfold sEv; rw [if_pos hk9])
          have okk := ok0 hk9
          refine t_cast X rfl kX8_45_9 (fun M h _ => ⟨_, _, h.1 (16, k) _ hs⟩) ?_
          refine t_run X 2 (pc1 := 72) (ls1 := [_, _, _, _, _, _, _, _, _, _, _, _]) (st1 := [_]) rfl ?_
          refine t_inst X (16, k) (b := true) (v := .int (iI 1)) rfl kX8_47_9 hs rfl ?_
          refine t_br X (pc1 := 101) (st1 := []) rfl (fun b9 => ?_) (fun b9 => ?_)
          · have c75 : (1 : Int) = (0 : Int) := cEq b9 (by omega) (by omega)
            exact absurd c75 (by omega)
          · have c75 : ¬ (1 : Int) = (0 : Int) := cNq b9 (by omega) (by omega)
            refine t_run X 1 (pc1 := 79) (ls1 := [_, _, _, _, _, _, _, _, _, _, _, _]) (st1 := [_]) rfl ?_
            refine t_cast X rfl kX8_47_9 (fun M h _ => ⟨_, _, h.1 (16, k) _ hs⟩) ?_
            refine t_run X 3 (pc1 := 87) (ls1 := [_, _, _, _, _, _, _, _, _, _, _, _]) (st1 := [_, _]) rfl ?_
            refine t_get X (16, k) (v := .int (iI (U 36 k))) rfl fX8_49 hs rfl ?_
            refine t_run X 1 (pc1 := 92) (ls1 := [_, _, _, _, _, _, _, _, _, _, _, _]) (st1 := [_, _, _]) rfl ?_
            refine t_get X (16, k) (v := .int (iI (U 35 k))) rfl fX8_53 hs rfl ?_
            refine t_callV X (List.range (rpL EV A B V ((U 25 0).toNat)).length) [] rfl mX8_56 (tc_rput z.2.1 EV (V := V) (p := (U 36 k)) (w := (U 35 k)) (by omega) (by omega)) (fun M _ h => ⟨_, _, h _ rp_m0⟩) (fm_all _) rfl (fun _ h => h) (fun _ h => nomatch h) rfl rfl (Nat.le_of_ble_eq_true rfl) (gFit.of hR (by decide) (by omega) (by omega)) (fun _ h => h.elim) (fun v9 A9 U9 L9 h9 => ?_)
            obtain ⟨rfl, h7, h8, rfl⟩ := h9
            obtain rfl := h7.symm
            obtain rfl := h8.symm
            refine t_eq (st' := []) rfl rfl ?_
            refine t_L (L' := (rpL EV A B (uPut V (U 36 k) (U 35 k)) ((U 25 0).toNat))) (List.append_nil _) ?_
            refine t_run X 1 (pc1 := 343) (ls1 := [_, _, _, _, _, _, _, _, _, _, _, _]) (st1 := []) rfl ?_
            exact t_forget [true, true, true, true, false, false, false, false, false, false, false, false] rfl (fin B _ _ _ hBq (by rw [rp, hV, rpS, if_pos hk9]) (by omega) (by omega))
        · have hs : sC EV A U (16, k) = some (.inr (12, [.int (iI (U 35 k)), .int (iI (U 36 k)), .int (iI (U 37 k))])) := (sC_16 (by omega)).trans (by unfold sEv; rw [if_neg (by omega)]; rw [if_pos hk9])
          have okk := ok1 hk9
          refine t_cast X rfl kX8_45_12 (fun M h _ => ⟨_, _, h.1 (16, k) _ hs⟩) ?_
          refine t_run X 2 (pc1 := 72) (ls1 := [_, _, _, _, _, _, _, _, _, _, _, _]) (st1 := [_]) rfl ?_
          refine t_inst X (16, k) (b := false) (v := .int (iI 0)) rfl knX8_47_12 hs rfl ?_
          refine t_br X (pc1 := 101) (st1 := []) rfl (fun b9 => ?_) (fun b9 => ?_)
          · have c75 : (0 : Int) = (0 : Int) := cEq b9 (by omega) (by omega)
            refine t_run X 1 (pc1 := 102) (ls1 := [_, _, _, _, _, _, _, _, _, _, _, _]) (st1 := [_]) rfl ?_
            refine t_inst X (16, k) (b := true) (v := .int (iI 1)) rfl kX8_60_12 hs rfl ?_
            refine t_br X (pc1 := 187) (st1 := []) rfl (fun b9 => ?_) (fun b9 => ?_)
            · have c105 : (1 : Int) = (0 : Int) := cEq b9 (by omega) (by omega)
              exact absurd c105 (by omega)
            · have c105 : ¬ (1 : Int) = (0 : Int) := cNq b9 (by omega) (by omega)
              refine t_run X 1 (pc1 := 109) (ls1 := [_, _, _, _, _, _, _, _, _, _, _, _]) (st1 := [_]) rfl ?_
              refine t_cast X rfl kX8_60_12 (fun M h _ => ⟨_, _, h.1 (16, k) _ hs⟩) ?_
              refine t_run X 2 (pc1 := 115) (ls1 := [_, _, _, _, _, _, _, _, _, _, _, _]) (st1 := [_]) rfl ?_
              refine t_mget X (v := .ref (B 81 0)) rfl fX8_20 rp_m0 rfl ?_
              refine t_run X 1 (pc1 := 120) (ls1 := [_, _, _, _, _, _, _, _, _, _, _, _]) (st1 := [_, _]) rfl ?_
              refine t_get X (16, k) (v := .int (iI (U 35 k))) rfl fX8_62 hs rfl ?_
              refine t_run X 1 (pc1 := 124) (ls1 := [_, _, _, _, _, _, _, _, _, _, _, _]) (st1 := [_, _, _, _]) rfl ?_
              refine t_miald X (j := (U 35 k).toNat) (v := iI (V 6 (U 35 k).toNat)) rfl rp_m2 (gIx_i (z := (U 35 k)) (by omega) (by omega)) rfl ?_
              refine t_run X 1 (pc1 := 127) (ls1 := [_, _, _, _, _, _, _, _, _, _, _, _]) (st1 := [_, _, _, _]) rfl ?_
              refine t_get X (16, k) (v := .int (iI (U 37 k))) rfl fX8_65 hs rfl ?_
              refine t_run X 1 (pc1 := 131) (ls1 := [_, _, _, _, _, _, _, _, _, _, _, _]) (st1 := [_, _, _]) rfl ?_
              refine t_eq (ls' := [some (.ref (B 78 0)), some (.ref (A 10 0)), some (.int (iI ((k : Nat) : Int))), some (.ref (A 16 k)), none, some (.ref (A 16 k)), none, none, none, none, none, none]) (st' := [.int (iI ((V 6 (U 35 k).toNat) - (U 37 k))), .int (iI (U 35 k)), .ref (B 81 0)]) (by first | rfl | (simp only [iI_add, iI_sub, iI_mul, iI_neg]; done) | (simp only [iI_add, iI_sub, iI_mul, iI_neg] <;> rfl)) (by first | rfl | (simp only [iI_add, iI_sub, iI_mul, iI_neg]; done) | (simp only [iI_add, iI_sub, iI_mul, iI_neg] <;> rfl)) ?_
              refine t_miast X (L' := (rpL EV A B (vS V 6 (U 35 k).toNat ((V 6 (U 35 k).toNat) - (U 37 k))) ((U 25 0).toNat))) rfl rp_m2 (gIx_i (z := (U 35 k)) (by omega) (by omega)) rp_f6 ⟨Nat.le_of_ble_eq_true rfl, Nat.le_of_ble_eq_true rfl⟩ (by decide) rp_w6 ?_
              refine t_run X 2 (pc1 := 135) (ls1 := [_, _, _, _, _, _, _, _, _, _, _, _]) (st1 := []) rfl ?_
              have v1 : (vS V 6 (U 35 k).toNat (V 6 (U 35 k).toNat - U 37 k)) 6 (U 35 k).toNat = V 6 (U 35 k).toNat - U 37 k := vS_s
              have v2 : (vS V 6 (U 35 k).toNat (V 6 (U 35 k).toNat - U 37 k)) 6 (U 36 k).toNat = V 6 (U 36 k).toNat := vS_i (by omega)
              exact in1 B (vS V 6 (U 35 k).toNat (V 6 (U 35 k).toNat - U 37 k)) k _ _ (by omega) (by omega) hs (by omega) (fin B _ _ _ hBq (by rw [rp, hV, rpS, if_neg (by omega), if_pos hk9]) (by omega) (by omega)) (U 37 k).toNat 0 (by omega)
          · have c75 : ¬ (0 : Int) = (0 : Int) := cNq b9 (by omega) (by omega)
            exact absurd c75 (by omega)
        · have hs : sC EV A U (16, k) = some (.inr (19, [.int (iI (U 35 k))])) := (sC_16 (by omega)).trans (by unfold sEv; rw [if_neg (by omega)]; rw [if_neg (by omega)]; rw [if_pos hk9])
          have okk := ok2 hk9
          refine t_cast X rfl kX8_45_19 (fun M h _ => ⟨_, _, h.1 (16, k) _ hs⟩) ?_
          refine t_run X 2 (pc1 := 72) (ls1 := [_, _, _, _, _, _, _, _, _, _, _, _]) (st1 := [_]) rfl ?_
          refine t_inst X (16, k) (b := false) (v := .int (iI 0)) rfl knX8_47_19 hs rfl ?_
          refine t_br X (pc1 := 101) (st1 := []) rfl (fun b9 => ?_) (fun b9 => ?_)
          · have c75 : (0 : Int) = (0 : Int) := cEq b9 (by omega) (by omega)
            refine t_run X 1 (pc1 := 102) (ls1 := [_, _, _, _, _, _, _, _, _, _, _, _]) (st1 := [_]) rfl ?_
            refine t_inst X (16, k) (b := false) (v := .int (iI 0)) rfl knX8_60_19 hs rfl ?_
            refine t_br X (pc1 := 187) (st1 := []) rfl (fun b9 => ?_) (fun b9 => ?_)
            · have c105 : (0 : Int) = (0 : Int) := cEq b9 (by omega) (by omega)
              refine t_run X 1 (pc1 := 188) (ls1 := [_, _, _, _, _, _, _, _, _, _, _, _]) (st1 := [_]) rfl ?_
              refine t_inst X (16, k) (b := true) (v := .int (iI 1)) rfl kX8_71_19 hs rfl ?_
              refine t_br X (pc1 := 279) (st1 := []) rfl (fun b9 => ?_) (fun b9 => ?_)
              · have c191 : (1 : Int) = (0 : Int) := cEq b9 (by omega) (by omega)
                exact absurd c191 (by omega)
              · have c191 : ¬ (1 : Int) = (0 : Int) := cNq b9 (by omega) (by omega)
                refine t_run X 1 (pc1 := 195) (ls1 := [_, _, _, _, _, _, _, _, _, _, _, _]) (st1 := [_]) rfl ?_
                refine t_cast X rfl kX8_71_19 (fun M h _ => ⟨_, _, h.1 (16, k) _ hs⟩) ?_
                refine t_run X 2 (pc1 := 201) (ls1 := [_, _, _, _, _, _, _, _, _, _, _, _]) (st1 := [_]) rfl ?_
                refine t_mget X (v := .ref (B 82 0)) rfl fX8_35 rp_m0 rfl ?_
                refine t_run X 1 (pc1 := 205) (ls1 := [_, _, _, _, _, _, _, _, _, _, _, _]) (st1 := [_, _]) rfl ?_
                refine t_mget X (v := .int (iI (V 25 0))) rfl fX8_73 rp_m0 rfl ?_
                refine t_run X 1 (pc1 := 209) (ls1 := [_, _, _, _, _, _, _, _, _, _, _, _]) (st1 := [_, _, _]) rfl ?_
                refine t_mget X (v := .ref (B 81 0)) rfl fX8_20 rp_m0 rfl ?_
                refine t_run X 1 (pc1 := 214) (ls1 := [_, _, _, _, _, _, _, _, _, _, _, _]) (st1 := [_, _, _, _]) rfl ?_
                refine t_get X (16, k) (v := .int (iI (U 35 k))) rfl fX8_76 hs rfl ?_
                refine t_miald X (j := (U 35 k).toNat) (v := iI (V 6 (U 35 k).toNat)) rfl rp_m2 (gIx_i (z := (U 35 k)) (by omega) (by omega)) rfl ?_
                refine t_newI X (83, (V 25 0).toNat) (V 6 (U 35 k).toNat).toNat rfl (iI_n0 (by omega) (by omega)) (iI_c (by omega) (by omega)) (by omega) (rc hR (by omega)) (rs hR (by omega)) (fun q9 => ?_)
                refine t_wide (k' := kc + 1) (n' := kn + 6) (by omega) (by omega) ?_
                refine t_L (L' := (rpD1 EV A B V (U 25 0).toNat q9 (U 35 k))) rfl ?_
                refine t_maast X (L' := (rpD2 EV A B V (U 25 0).toNat q9 (U 35 k))) rfl (rd1 rp_m3) rd1s (gIx_i (z := V 25 0) (by omega) (by omega)) rfl ⟨Nat.le_of_ble_eq_true rfl, Nat.le_of_ble_eq_true rfl⟩ (by decide) repl_el ?_
                refine t_run X 1 (pc1 := 222) (ls1 := [_, _, _, _, _, _, _, _, _, _, _, _]) (st1 := [_]) rfl ?_
                refine t_mget X (v := .ref (B 79 0)) rfl fX8_17 (rd2 rp_m0 (Nat.ne_of_beq_eq_false rfl)) rfl ?_
                refine t_run X 1 (pc1 := 227) (ls1 := [_, _, _, _, _, _, _, _, _, _, _, _]) (st1 := [_, _]) rfl ?_
                refine t_get X (16, k) (v := .int (iI (U 35 k))) rfl fX8_76 hs rfl ?_
                refine t_maald X (j := (U 35 k).toNat) (v := .ref (B 80 (U 35 k).toNat)) rfl (rd2 rp_m1 (Nat.ne_of_beq_eq_false rfl)) (gIx_i (z := (U 35 k)) (by omega) (by omega)) (by show va_rf (if (U 35 k).toNat < 15 then _ else _) = _; rw [if_pos (by omega)]; rfl) ?_
                refine t_run X 2 (pc1 := 233) (ls1 := [_, _, _, _, _, _, _, _, _, _, _, _]) (st1 := [_, _, _]) rfl ?_
                refine t_mget X (v := .ref (B 82 0)) rfl fX8_35 (rd2 rp_m0 (Nat.ne_of_beq_eq_false rfl)) rfl ?_
                refine t_run X 1 (pc1 := 237) (ls1 := [_, _, _, _, _, _, _, _, _, _, _, _]) (st1 := [_, _, _, _]) rfl ?_
                refine t_mget X (v := .int (iI (V 25 0))) rfl fX8_73 (rd2 rp_m0 (Nat.ne_of_beq_eq_false rfl)) rfl ?_
                refine t_maald X (j := (V 25 0).toNat) (v := .ref q9) rfl rd2t (gIx_i (z := (V 25 0)) (by omega) (by omega)) (by unfold rpF3 va_up; rw [if_pos rfl]; rfl) ?_
                refine t_run X 2 (pc1 := 243) (ls1 := [_, _, _, _, _, _, _, _, _, _, _, _]) (st1 := [_, _, _, _, _]) rfl ?_
                refine t_mget X (v := .ref (B 81 0)) rfl fX8_20 (rd2 rp_m0 (Nat.ne_of_beq_eq_false rfl)) rfl ?_
                refine t_run X 1 (pc1 := 248) (ls1 := [_, _, _, _, _, _, _, _, _, _, _, _]) (st1 := [_, _, _, _, _, _]) rfl ?_
                refine t_get X (16, k) (v := .int (iI (U 35 k))) rfl fX8_76 hs rfl ?_
                refine t_miald X (j := (U 35 k).toNat) (v := iI (V 6 (U 35 k).toNat)) rfl (rd2 rp_m2 (Nat.ne_of_beq_eq_false rfl)) (gIx_i (z := (U 35 k)) (by omega) (by omega)) rfl ?_
                refine t_mcopyI X (L' := (rpD3 EV A B V (U 25 0).toNat q9 (U 35 k))) (f' := rpF9 V (U 35 k)) rfl ⟨q1764, q305, q304, q61⟩ (rd2 (rp_mR (j := (U 35 k).toNat) (by omega)) (Nat.ne_of_beq_eq_false rfl)) rd2s (by decide) (by decide) (iI_n0 (by omega) (by omega)) (by rw [iI_c (z := (V 6 (U 35 k).toNat)) (by omega) (by omega)]; show 0 + _ ≤ _; omega) (by rw [iI_c (z := (V 6 (U 35 k).toNat)) (by omega) (by omega)]; show 0 + _ ≤ _; omega) (by rw [iI_c (z := (V 6 (U 35 k).toNat)) (by omega) (by omega)]; rfl) ⟨by rw [hR]; exact Nat.le_of_ble_eq_true rfl, by rw [hR]; exact Nat.le_of_ble_eq_true rfl⟩ (Nat.le_of_ble_eq_true rfl) ⟨Nat.le_of_ble_eq_true rfl, Nat.le_of_ble_eq_true rfl⟩ (by show 70 ≤ 83 ∧ 83 < 100; decide) repl_el ?_
                refine t_run X 1 (pc1 := 256) (ls1 := [_, _, _, _, _, _, _, _, _, _, _, _]) (st1 := [_]) rfl ?_
                refine t_mget X (v := .ref (B 81 0)) rfl fX8_20 (rd3 rp_m0 (Nat.ne_of_beq_eq_false rfl) (nt1 (by decide))) rfl ?_
                refine t_run X 1 (pc1 := 261) (ls1 := [_, _, _, _, _, _, _, _, _, _, _, _]) (st1 := [_, _]) rfl ?_
                refine t_get X (16, k) (v := .int (iI (U 35 k))) rfl fX8_76 hs rfl ?_
                refine t_run X 1 (pc1 := 265) (ls1 := [_, _, _, _, _, _, _, _, _, _, _, _]) (st1 := [_, _, _]) rfl ?_
                refine t_miast X (L' := (rpD4 EV A B V (U 25 0).toNat q9 (U 35 k))) rfl (rd3 rp_m2 (Nat.ne_of_beq_eq_false rfl) (nt1 (by decide))) (gIx_i (z := U 35 k) (by omega) (by omega)) rp_f6 ⟨Nat.le_of_ble_eq_true rfl, Nat.le_of_ble_eq_true rfl⟩ (by decide) repl_el ?_
                refine t_run X 2 (pc1 := 268) (ls1 := [_, _, _, _, _, _, _, _, _, _, _, _]) (st1 := [_, _]) rfl ?_
                refine t_mget X (v := .int (iI (V 25 0))) rfl fX8_73 (rd4 rp_m0 (Nat.ne_of_beq_eq_false rfl) (nt1 (by decide)) (Nat.ne_of_beq_eq_false rfl)) rfl ?_
                refine t_run X 2 (pc1 := 273) (ls1 := [_, _, _, _, _, _, _, _, _, _, _, _]) (st1 := [_, _]) rfl ?_
                refine t_eq (ls' := [some (.ref (B 78 0)), some (.ref (A 10 0)), some (.int (iI ((k : Nat) : Int))), some (.ref (A 16 k)), none, none, some (.ref (A 16 k)), none, none, none, none, none]) (st' := [.int (iI ((V 25 0) + 1)), .ref (B 78 0)]) (by first | rfl | (simp only [iI_add, iI_sub, iI_mul, iI_neg]; done) | (simp only [iI_add, iI_sub, iI_mul, iI_neg] <;> rfl)) (by first | rfl | (simp only [iI_add, iI_sub, iI_mul, iI_neg]; done) | (simp only [iI_add, iI_sub, iI_mul, iI_neg] <;> rfl)) ?_
                refine t_mput X (L' := (rpD5 EV A B V (U 25 0).toNat q9 (U 35 k))) rfl fX8_73 (rd4 rp_m0 (Nat.ne_of_beq_eq_false rfl) (nt1 (by decide)) (Nat.ne_of_beq_eq_false rfl)) rfl rfl (Nat.le_of_ble_eq_true rfl) rfl ⟨Nat.le_of_ble_eq_true rfl, Nat.le_of_ble_eq_true rfl⟩ (by decide) repl_el ?_
                refine t_Lm (L' := (rpL EV A (aS B 83 (V 25 0).toNat q9) (rDp V (U 35 k)) ((U 25 0).toNat))) (rp_dep (by omega) (by omega) (by omega) okk.2.2.2) ?_
                refine t_run X 1 (pc1 := 343) (ls1 := [_, _, _, _, _, _, _, _, _, _, _, _]) (st1 := []) rfl ?_
                exact t_forget [true, true, true, true, false, false, false, false, false, false, false, false] rfl (fin (aS B 83 (V 25 0).toNat q9) _ _ _ hBq (by rw [rp, hV, rpS, if_neg (by omega), if_neg (by omega), if_pos hk9]) (by omega) (by omega))
            · have c105 : ¬ (0 : Int) = (0 : Int) := cNq b9 (by omega) (by omega)
              exact absurd c105 (by omega)
          · have c75 : ¬ (0 : Int) = (0 : Int) := cNq b9 (by omega) (by omega)
            exact absurd c75 (by omega)
        · have hs : sC EV A U (16, k) = some (.inr (20, [.int (iI (U 35 k)), .int (iI (U 36 k))])) := (sC_16 (by omega)).trans (by unfold sEv; rw [if_neg (by omega)]; rw [if_neg (by omega)]; rw [if_neg (by omega)])
          have okk := ok3 hk9
          refine t_cast X rfl kX8_45_20 (fun M h _ => ⟨_, _, h.1 (16, k) _ hs⟩) ?_
          refine t_run X 2 (pc1 := 72) (ls1 := [_, _, _, _, _, _, _, _, _, _, _, _]) (st1 := [_]) rfl ?_
          refine t_inst X (16, k) (b := false) (v := .int (iI 0)) rfl knX8_47_20 hs rfl ?_
          refine t_br X (pc1 := 101) (st1 := []) rfl (fun b9 => ?_) (fun b9 => ?_)
          · have c75 : (0 : Int) = (0 : Int) := cEq b9 (by omega) (by omega)
            refine t_run X 1 (pc1 := 102) (ls1 := [_, _, _, _, _, _, _, _, _, _, _, _]) (st1 := [_]) rfl ?_
            refine t_inst X (16, k) (b := false) (v := .int (iI 0)) rfl knX8_60_20 hs rfl ?_
            refine t_br X (pc1 := 187) (st1 := []) rfl (fun b9 => ?_) (fun b9 => ?_)
            · have c105 : (0 : Int) = (0 : Int) := cEq b9 (by omega) (by omega)
              refine t_run X 1 (pc1 := 188) (ls1 := [_, _, _, _, _, _, _, _, _, _, _, _]) (st1 := [_]) rfl ?_
              refine t_inst X (16, k) (b := false) (v := .int (iI 0)) rfl knX8_71_20 hs rfl ?_
              refine t_br X (pc1 := 279) (st1 := []) rfl (fun b9 => ?_) (fun b9 => ?_)
              · have c191 : (0 : Int) = (0 : Int) := cEq b9 (by omega) (by omega)
                refine t_run X 1 (pc1 := 280) (ls1 := [_, _, _, _, _, _, _, _, _, _, _, _]) (st1 := [_]) rfl ?_
                refine t_inst X (16, k) (b := true) (v := .int (iI 1)) rfl kX8_83_20 hs rfl ?_
                refine t_br X (pc1 := 343) (st1 := []) rfl (fun b9 => ?_) (fun b9 => ?_)
                · have c283 : (1 : Int) = (0 : Int) := cEq b9 (by omega) (by omega)
                  exact absurd c283 (by omega)
                · have c283 : ¬ (1 : Int) = (0 : Int) := cNq b9 (by omega) (by omega)
                  refine t_run X 1 (pc1 := 287) (ls1 := [_, _, _, _, _, _, _, _, _, _, _, _]) (st1 := [_]) rfl ?_
                  refine t_cast X rfl kX8_83_20 (fun M h _ => ⟨_, _, h.1 (16, k) _ hs⟩) ?_
                  refine t_run X 2 (pc1 := 293) (ls1 := [_, _, _, _, _, _, _, _, _, _, _, _]) (st1 := [_]) rfl ?_
                  refine t_mget X (v := .ref (B 82 0)) rfl fX8_35 rp_m0 rfl ?_
                  refine t_run X 1 (pc1 := 298) (ls1 := [_, _, _, _, _, _, _, _, _, _, _, _]) (st1 := [_, _]) rfl ?_
                  refine t_get X (16, k) (v := .int (iI (U 35 k))) rfl fX8_85 hs rfl ?_
                  refine t_maald X (j := (U 35 k).toNat) (v := .ref (B 83 (U 35 k).toNat)) rfl rp_m3 (gIx_i (z := (U 35 k)) (by omega) (by omega)) (by show va_rf (if (((U 35 k).toNat : Nat) : Int) < V 25 0 then _ else _) = _; rw [if_pos (by omega)]; rfl) ?_
                  refine t_run X 2 (pc1 := 306) (ls1 := [_, _, _, _, _, _, _, _, _, _, _, _]) (st1 := [_]) rfl ?_
                  refine t_malen X (v := iI (V 28 (U 35 k).toNat)) rfl (rp_mT (j := (U 35 k).toNat) (by omega)) (by rw [iI_ofNat, show (((V 28 (U 35 k).toNat).toNat : Nat) : Int) = (V 28 (U 35 k).toNat) by omega]) ?_
                  refine t_run X 3 (pc1 := 312) (ls1 := [_, _, _, _, _, _, _, _, _, _, _, _]) (st1 := []) rfl ?_
                  exact in2 B V k _ _ (by omega) (by omega) hs (by omega) (fin B _ _ _ hBq (by rw [rp, hV, rpS, if_neg (by omega), if_neg (by omega), if_neg (by omega)]) (by omega) (by omega)) (V 28 (U 35 k).toNat).toNat 0 (by omega)
              · have c191 : ¬ (0 : Int) = (0 : Int) := cNq b9 (by omega) (by omega)
                exact absurd c191 (by omega)
            · have c105 : ¬ (0 : Int) = (0 : Int) := cNq b9 (by omega) (by omega)
              exact absurd c105 (by omega)
          · have c75 : ¬ (0 : Int) = (0 : Int) := cNq b9 (by omega) (by omega)
            exact absurd c75 (by omega)
  refine t_eq (ls' := [some (.ref q), some (.ref (A 10 0)), none, none, none, none, none, none, none, none, none, none]) (st' := []) rfl rfl ?_
  refine t_run X 2 (pc1 := 2) (ls1 := [_, _, _, _, _, _, _, _, _, _, _, _]) (st1 := [_, _]) rfl ?_
  refine t_mputF X (L' := ((q, (78, 0), .inr (13, [.null, .null, .null, .int 0, .ref (A 10 0)])) :: [])) rfl rfl fX8_3 (List.mem_cons_self ..) rfl rfl (Nat.le_of_ble_eq_true rfl) rfl ⟨Nat.le_of_ble_eq_true rfl, Nat.le_of_ble_eq_true rfl⟩ (by decide) (hd_set (fun _ h => nomatch h)) ?_
  refine t_run X 1 (pc1 := 6) (ls1 := [_, _, _, _, _, _, _, _, _, _, _, _]) (st1 := [_]) rfl ?_
  refine t_oinit X rfl q1750 ⟨by rw [hR]; exact Nat.le_of_ble_eq_true rfl, by rw [hR]; exact Nat.le_of_ble_eq_true rfl⟩ (Nat.le_of_ble_eq_true rfl) ?_
  refine t_run X 3 (pc1 := 14) (ls1 := [_, _, _, _, _, _, _, _, _, _, _, _]) (st1 := [_, _, _]) rfl ?_
  refine t_multi X (79, 0) (80, 0) 5 0 (Or.inl ⟨rfl, rfl, rfl⟩) (N := 15) (K := 6) rfl q1751 (by decide) (by decide) (by decide) (by decide) (by decide) (rc hR (by decide)) (rs hR (by decide)) (fun qa => ?_)
  refine t_L (L' := ((q, (78, 0), .inr (13, [.null, .null, .null, .int 0, .ref (A 10 0)])) :: rowL qa (79, 0) (80, 0) (EV.2.1 5) (EV.2.1 0) 15 6)) rfl ?_
  refine t_mputF X (L' := ((q, (78, 0), .inr (13, [.ref qa, .null, .null, .int 0, .ref (A 10 0)])) :: rowL qa (79, 0) (80, 0) (EV.2.1 5) (EV.2.1 0) 15 6)) rfl rfl fX8_17 (List.mem_cons_self ..) rfl rfl (Nat.le_of_ble_eq_true rfl) rfl ⟨Nat.le_of_ble_eq_true rfl, Nat.le_of_ble_eq_true rfl⟩ (by decide) (hd_set (rowL_t (by decide) (by decide))) ?_
  refine t_run X 2 (pc1 := 24) (ls1 := [_, _, _, _, _, _, _, _, _, _, _, _]) (st1 := [_, _]) rfl ?_
  refine t_newI X (81, 0) 15 rfl (by decide) (by decide) (by decide) (rc hR (by decide)) (rs hR (by decide)) (fun qs => ?_)
  refine t_L (L' := ((q, (78, 0), .inr (13, [.ref qa, .null, .null, .int 0, .ref (A 10 0)])) :: (rowL qa (79, 0) (80, 0) (EV.2.1 5) (EV.2.1 0) 15 6 ++ [(qs, (81, 0), .inl (EV.2.1 0, 15, .inl (fun _ => 0)))]))) rfl ?_
  refine t_mputF X (L' := ((q, (78, 0), .inr (13, [.ref qa, .ref qs, .null, .int 0, .ref (A 10 0)])) :: (rowL qa (79, 0) (80, 0) (EV.2.1 5) (EV.2.1 0) 15 6 ++ [(qs, (81, 0), .inl (EV.2.1 0, 15, .inl (fun _ => 0)))]))) rfl rfl fX8_20 (List.mem_cons_self ..) rfl rfl (Nat.le_of_ble_eq_true rfl) rfl ⟨Nat.le_of_ble_eq_true rfl, Nat.le_of_ble_eq_true rfl⟩ (by decide) (hd_set (ap_t (rowL_t (by decide) (by decide)) (by decide))) ?_
  refine t_run X 2 (pc1 := 31) (ls1 := [_, _, _, _, _, _, _, _, _, _, _, _]) (st1 := [_, _]) rfl ?_
  refine t_mget X (v := .ref (A 10 0)) rfl fX8_3 (List.mem_cons_self ..) rfl ?_
  refine t_get X (10, 0) (v := .ref (A 30 4)) rfl fX8_24 sC_10 rfl ?_
  refine t_callV X [] (List.range ((q, (78, 0), .inr (13, [.ref qa, .ref qs, .null, .int 0, .ref (A 10 0)])) :: (rowL qa (79, 0) (80, 0) (EV.2.1 5) (EV.2.1 0) 15 6 ++ [(qs, (81, 0), .inl (EV.2.1 0, 15, .inl (fun _ => 0)))])).length) rfl mX8_28 (tc_alsizeN z.2.1 EV (i := 4) (by unfold alL; omega) (n := U 25 0) rfl (by omega)) (fun M h _ => gAL_at (h.2.1 4 (by unfold alL; omega))) rfl (fm_all _) (fun _ h => h.elim) (fun _ _ h => h) rfl rfl (Nat.le_of_ble_eq_true rfl) (gFit.of hR (by decide) (Nat.le_of_ble_eq_true rfl) (by omega)) (fun _ h => h.elim) (fun v9 A9 U9 L9 h9 => ?_)
  obtain ⟨rfl, h7, h8, rfl⟩ := h9
  obtain rfl := h7.symm
  obtain rfl := h8.symm
  refine t_eq (st' := [.int (iI (U 25 0)), .ref q]) rfl rfl ?_
  refine t_L (L' := ((q, (78, 0), .inr (13, [.ref qa, .ref qs, .null, .int 0, .ref (A 10 0)])) :: (rowL qa (79, 0) (80, 0) (EV.2.1 5) (EV.2.1 0) 15 6 ++ [(qs, (81, 0), .inl (EV.2.1 0, 15, .inl (fun _ => 0)))]))) rfl ?_
  refine t_mnewqA X (82, 0) (N := (U 25 0).toNat) rfl q1754 (iI_n0 (by omega) (by omega)) (iI_c (by omega) (by omega)) (by omega) (rc hR (by decide)) (rs hR (by omega)) (fun qt => ?_)
  refine t_wide (k' := 0 + 1 + 15 + 1 + 1) (n' := 0 + 15 + 15 * 6 + 15 + 40) (by omega) (by omega) ?_
  refine t_L (L' := ((q, (78, 0), .inr (13, [.ref qa, .ref qs, .null, .int 0, .ref (A 10 0)])) :: ((rowL qa (79, 0) (80, 0) (EV.2.1 5) (EV.2.1 0) 15 6 ++ [(qs, (81, 0), .inl (EV.2.1 0, 15, .inl (fun _ => 0)))]) ++ [(qt, (82, 0), .inl (EV.2.1 5, (U 25 0).toNat, refs (fun _ => none)))]))) rfl ?_
  refine t_mputF X (L' := ((q, (78, 0), .inr (13, [.ref qa, .ref qs, .ref qt, .int 0, .ref (A 10 0)])) :: ((rowL qa (79, 0) (80, 0) (EV.2.1 5) (EV.2.1 0) 15 6 ++ [(qs, (81, 0), .inl (EV.2.1 0, 15, .inl (fun _ => 0)))]) ++ [(qt, (82, 0), .inl (EV.2.1 5, (U 25 0).toNat, refs (fun _ => none)))]))) rfl rfl fX8_35 (List.mem_cons_self ..) rfl rfl (Nat.le_of_ble_eq_true rfl) rfl ⟨Nat.le_of_ble_eq_true rfl, Nat.le_of_ble_eq_true rfl⟩ (by decide) (hd_set (ap_t (ap_t (rowL_t (by decide) (by decide)) (by decide)) (by decide))) ?_
  refine t_run X 2 (pc1 := 48) (ls1 := [_, _, _, _, _, _, _, _, _, _, _, _]) (st1 := []) rfl ?_
  refine t_Lm (L' := rpL EV A (rpB q qa qs qt) (rp U 0) (U 25 0).toNat) rp_start ?_
  exact t_wide (by omega) (by omega) (loop (U 33 0).toNat 0 (rpB q qa qs qt) (by omega) rfl 18 160 (by omega) (by omega))
