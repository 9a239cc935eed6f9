/-! THE JDK's lists, walked over local pictures: toArray -/
def tLLw (li : Nat) (w : gTag) : gTag → Prop := fun t => tLL li t ∨ t = w
theorem tLLw_n {li lj p : Nat} {w : gTag} (hp : p < 8) (hij : li ≠ lj) (ht : w ≠ (25, 8 * li + p)) (h : tLLw lj w (25, 8 * li + p)) : False := by
  rcases h with (e | ⟨-, e⟩) | e
  · have := congrArg Prod.fst e
    simp at this
  · apply hij
    show li = lj
    rw [← e]
    show li = (8 * li + p) / 8
    omega
  · exact ht e.symm
theorem tLLw_g {lj : Nat} {w : gTag} (hw : 24 ≤ w.1) (t : gTag) (h : tLLw lj w t) : 24 ≤ t.1 := by
  rcases h with (e | ⟨e, -⟩) | e
  · rw [e]; exact Nat.le_refl _
  · rw [e]; decide
  · rw [e]; exact hw
theorem gDp4 {a b c d : Nat} {t u w x : gTag} {e f g h : va_E} (h1 : t ≠ u) (h2 : t ≠ w) (h3 : t ≠ x) (h4 : u ≠ w) (h5 : u ≠ x) (h6 : w ≠ x) : gDp [(a, t, e), (b, u, f), (c, w, g), (d, x, h)] := by
  intro i j x y hi hj hij
  rcases i with _ | _ | _ | _ | i <;> rcases j with _ | _ | _ | _ | j <;> simp at hi hj hij <;> subst hi <;> subst hj <;> first | assumption | exact fun e => h1 e.symm | exact fun e => h2 e.symm | exact fun e => h3 e.symm | exact fun e => h4 e.symm | exact fun e => h5 e.symm | exact fun e => h6 e.symm
/-- an object of ours that is no list -/
def gOw (M : gM) (v : Nat) : Prop := ∃ (tv : gTag) (ci : Nat) (r : vw_C) (fs : List Value), M v = some (tv, .inr (ci, fs)) ∧ vwCl[ci]? = some r ∧ Cond.castable r.1 "java/lang/Object" ∈ lw_tbl ∧ tv.1 < 24
theorem gOw.ob {M : gM} {v : Nat} (h : gOw M v) : gOb M v := by
  obtain ⟨tv, ci, r, fs, h1, h2, h3, -⟩ := h
  exact ⟨tv, ci, r, fs, h1, h2, h3⟩
theorem gOw.oz {M : gM} {v : Nat} (h : gOw M v) : gOz M v := by
  obtain ⟨tv, ci, r, fs, h1, h2, h3, h4⟩ := h
  exact ⟨tv, ci, r, fs, h1, h2, h3, by omega⟩
theorem gOw.fr {M M' : gM} {T : gTag → Prop} {v : Nat} (h : gOw M v) (hF : gFr T M M') (hT : ∀ t, T t → 24 ≤ t.1) : gOw M' v := by
  obtain ⟨tv, ci, r, fs, h1, h2, h3, h4⟩ := h
  exact ⟨tv, ci, r, fs, hF _ _ _ h1 (fun z => by have := hT _ z; omega), h2, h3, h4⟩
def kNw (li N : Nat) (ns f : Nat → Nat) : gM → Prop := fun M => kNs li 0 N N ns f M ∧ ∀ p, p < N → gOw M (f p)
theorem kNw_T {li N : Nat} {ns f : Nat → Nat} {T : gTag → Prop} (hn : ∀ p, p < N → ¬ T (25, 8 * li + p)) (ht : ∀ t, T t → 24 ≤ t.1) : gKT (kNw li N ns f) T :=
  fun _ _ hF h => ⟨kNs_T (fun p _ h2 => hn p h2) _ _ hF h.1, fun p hp => (h.2 p hp).fr hF ht⟩
theorem kNs_more {lj p N q : Nat} {ns2 ns3 f : Nat → Nat} {M : gM} (h : kNs lj 0 p N ns2 f M) (h1 : M (ns2 p) = some ((25, 8 * lj + p), .inr (8, [.ref (f p), .ref q, gPv ns2 p]))) (e1 : ns3 (p + 1) = q) (e2 : ∀ x, x ≤ p → ns3 x = ns2 x) (hp : p + 1 < N) : kNs lj 0 (p + 1) N ns3 f M := by
  have hpv : ∀ x, x ≤ p → gPv ns3 x = gPv ns2 x := fun x hx => by
    unfold gPv
    by_cases h0 : x = 0
    · rw [if_pos h0, if_pos h0]
    · rw [if_neg h0, if_neg h0, e2 (x - 1) (by omega)]
  intro x hx1 hx2
  show M (ns3 x) = some ((25, 8 * lj + x), .inr (8, [.ref (f x), gNx ns3 N x, gPv ns3 x]))
  rw [e2 x (by omega), hpv x (by omega), gNx_1 (by omega)]
  by_cases hxp : x = p
  · subst hxp
    rw [e1]; exact h1
  · have h2 : M (ns2 x) = some ((25, 8 * lj + x), .inr (8, [.ref (f x), gNx ns2 N x, gPv ns2 x])) := h x hx1 (by omega)
    rw [h2, gNx_1 (by omega), e2 (x + 1) (by omega)]
theorem kNs_last {lj p N : Nat} {ns2 f : Nat → Nat} {M : gM} (h : kNs lj 0 p N ns2 f M) (h1 : M (ns2 p) = some ((25, 8 * lj + p), .inr (8, [.ref (f p), .null, gPv ns2 p]))) (hp : p + 1 = N) : kNs lj 0 N N ns2 f M := by
  intro x hx1 hx2
  by_cases hxp : x = p
  · subst hxp
    show M (ns2 x) = some ((25, 8 * lj + x), .inr (8, [.ref (f x), gNx ns2 N x, gPv ns2 x]))
    rw [gNx_0 (by omega)]; exact h1
  · exact h x hx1 (by omega)
theorem kNs_L {lj N : Nat} {ns2 f : Nat → Nat} {M : gM} (h : kNs lj 0 N N ns2 f M) : gL M ((List.range N).map (fun p => gNd lj N p ns2 f)) := by
  intro x hx
  obtain ⟨p, hp, rfl⟩ := List.mem_map.mp hx
  exact h p (by omega) (List.mem_range.mp hp)
theorem gL_kNs {lj N : Nat} {ns2 f : Nat → Nat} {M : gM} (h : gL M ((List.range N).map (fun p => gNd lj N p ns2 f))) : kNs lj 0 N N ns2 f M := by
  intro p h1 h2
  exact h _ (List.mem_map.mpr ⟨p, List.mem_range.mpr h2, rfl⟩)
theorem l_takeL {z : gZ} {S : gS} {EV : gEV} {Q : State → Prop} {M0 : gM} {K : gM → Prop} {T : gTag → Prop} {L L2 : gLL} {k n pc : Nat} {ls : List (Option Value)} {st : List Value} (h : ∀ M, K M → gL M L2) (kk : gLj z S EV Q K T M0 (L ++ L2) k n pc ls st) : gLj z S EV Q K T M0 L k n pc ls st :=
  fun M h1 h2 h3 => kk M h1 (h2.app (h M h1)) h3
theorem vup_s {f : Nat → Nat} {p : Nat} : va_up (fun j => if j < p then some (f j) else none) (p : Int).toNat (some (f p)) = fun j => if j < p + 1 then some (f j) else none := by
  funext j
  unfold va_up
  by_cases h : j = p
  · subst h
    simp
  · by_cases h2 : j < p
    · simp [h, h2, show j < p + 1 by omega]
    · simp [h, h2, show ¬ j < p + 1 by omega]
theorem fk_0 {f : Nat → Nat} : (fun j => if j < 0 then some (f j) else none) = fun _ => none := by
  funext j
  simp
section
variable {z : gZ} {S : gS} {EV : gEV} {Q : State → Prop} {M0 : gM} {K : gM → Prop} {T : gTag → Prop} {L : gLL} {k n pc : Nat} {ls : List (Option Value)} {st : List Value}
theorem l_newqW (X : CX z S EV) (t : gTag) (hK : gKT K (tO t)) (i : Nat) {idx : Nat} {C : String} {x : Int32} {N : Nat} (hT : S.2.2.2.2.1 pc = some (.anewarray idx, 3)) (hk : Cond.classLink S.2.1 idx C ∈ lw_all) (ho : C ∈ gOver) (hi : (gTys EV.2.1)[i]? = some (EV.2.1 i, .object C))
    (hx : ¬ x < 0) (hN : x.toNatClampNeg = N) (hby : N ≤ 100000) (hc : k + 1 ≤ z.2.2.2.1.cells) (hs : n + N ≤ z.2.2.2.1.slots)
    (kk : ∀ q : Nat, gLj z S EV Q K T M0 (L ++ [(q, t, .inl (EV.2.1 i, N, .inr (.inr (.inr (.inr (fun _ => none))))))]) (k + 1) (n + N) (pc + 3) ls (.ref q :: st)) : gLj z S EV Q K T M0 L k n pc ls (.int x :: st) :=
  fun _ h1 h2 h3 => g_newq X t i hT hk ho hi hx hN hby hc hs (fun q hq => kk q _ (hK _ _ (gFr.new hq) h1) (h2.new hq) (h3.trans (gFr.new hq)))
end
set_option maxHeartbeats 1000000 in
theorem jc_toArray (l : Launch) (EV : gEV) {a li N : Nat} (hN : 0 < N ∧ N ≤ 6) {ns f : Nat → Nat} {t w : gTag} (htw : t ≠ w) (ht : ∀ p, p < N → w ≠ (25, 8 * li + p)) (hw : 30 ≤ w.1) {m : Int} : JC l yJ7_toArray cJ7_toArray 4 (some (.array (.object "java/lang/Object"))) 1 1 6 EV (kNw li N ns f) (tO w) [.ref a] [(a, t, .inr (2, [.int (iI m), .int (iI ((N : Nat) : Int)), .ref (ns 0), .ref (ns (N - 1))]))] (fun v9 L9 => ∃ q : Nat, v9 = some (.ref q) ∧ L9 = [(a, t, .inr (2, [.int (iI m), .int (iI ((N : Nat) : Int)), .ref (ns 0), .ref (ns (N - 1))])), (q, w, .inl (EV.2.1 2, N, .inr (.inr (.inr (.inr (fun j => if j < N then some (f j) else none))))))]) := by
  refine l_body tbJ7_toArray tkJ7_toArray (by decide) (by intro v hv; simp only [List.mem_cons, List.not_mem_nil, or_false] at hv; rcases hv with rfl <;> rfl) (Nat.le_of_ble_eq_true rfl) (fun M0 z Q X hl hR hQ => ?_)
  subst hl
  have hKw : gKT (kNw li N ns f) (tO w) := kNw_T (fun p h2 e => ht p h2 e.symm) (fun x hx => by rw [hx]; omega)
  have loop : ∀ (q j p : Nat), p + 1 + j = N → gLj z (cJ7_toArray, yJ7_toArray.cls, 4, (some (.array (.object "java/lang/Object"))), tbJ7_toArray, yJ7_toArray.name) EV Q (kNw li N ns f) (tO w) M0 [(a, t, .inr (2, [.int (iI m), .int (iI ((N : Nat) : Int)), .ref (ns 0), .ref (ns (N - 1))])), (q, w, .inl (EV.2.1 2, N, .inr (.inr (.inr (.inr (fun j => if j < p then some (f j) else none))))))] 1 N 15 [some (.ref a), some (.ref q), some (.int (iI (p : Int))), some (.ref (ns p))] [] := by
    intro q j
    induction j with
    | zero =>
      intro p hp
      refine l_run X 6 (pc1 := 25) (ls1 := [_, _, _, _]) (st1 := [_, _, _]) rfl ?_
      refine l_eq (ls' := [some (.ref a), some (.ref q), some (.int (iI ((p : Int) + 1))), some (.ref (ns p))]) (st' := [.ref (ns p), .int (iI (p : Int)), .ref q]) (by simp only [iI_add, iI_sub, iI_mul, iI_neg]) (by simp only [iI_add, iI_sub, iI_mul, iI_neg]) ?_
      refine l_getK X (v := .ref (f p)) rfl fJ7_39 (fun M h => h.1 (p) (by omega) (by omega)) rfl ?_
      refine l_aastW X 1 hKw rfl rfl (fun M h _ => (h.2 p (by omega)).ob) (gDp2 htw) (rfl) (gIx_i (by omega) (by omega)) (L' := [(a, t, .inr (2, [.int (iI m), .int (iI ((N : Nat) : Int)), .ref (ns 0), .ref (ns (N - 1))])), (q, w, .inl (EV.2.1 2, N, .inr (.inr (.inr (.inr (fun j => if j < (p + 1) then some (f j) else none))))))]) (by rw [vup_s]; rfl) ?_
      refine l_run X 1 (pc1 := 30) (ls1 := [_, _, _, _]) (st1 := [_]) rfl ?_
      by_cases h9 : p + 1 < N
      · refine l_getK X (v := .ref (ns (p + 1))) rfl fJ7_36 (fun M h => h.1 (p) (by omega) (by omega)) (by show some (gNx ns N _) = _; rw [gNx_1 h9]) ?_
        refine l_run X 2 (pc1 := 15) (ls1 := [_, _, _, _]) (st1 := []) rfl ?_
        exact absurd h9 (by omega)
      · refine l_getK X (v := .null) rfl fJ7_36 (fun M h => h.1 (p) (by omega) (by omega)) (by show some (gNx ns N _) = _; rw [gNx_0 h9]) ?_
        refine l_run X 2 (pc1 := 15) (ls1 := [_, _, _, _]) (st1 := []) rfl ?_
        refine l_run X 3 (pc1 := 38) (ls1 := [_, _, _, _]) (st1 := [_]) rfl ?_
        have e9 : p + 1 = N := by omega
        subst e9
        exact l_aret X hQ rfl rfl (Or.inr ⟨_, rfl⟩) (Or.inr ⟨_, rfl⟩) (Nat.le_of_ble_eq_true rfl) (by first | exact Nat.le_of_ble_eq_true rfl | omega) ⟨q, rfl, rfl⟩
    | succ j ih =>
      intro p hp
      refine l_run X 6 (pc1 := 25) (ls1 := [_, _, _, _]) (st1 := [_, _, _]) rfl ?_
      refine l_eq (ls' := [some (.ref a), some (.ref q), some (.int (iI ((p : Int) + 1))), some (.ref (ns p))]) (st' := [.ref (ns p), .int (iI (p : Int)), .ref q]) (by simp only [iI_add, iI_sub, iI_mul, iI_neg]) (by simp only [iI_add, iI_sub, iI_mul, iI_neg]) ?_
      refine l_getK X (v := .ref (f p)) rfl fJ7_39 (fun M h => h.1 (p) (by omega) (by omega)) rfl ?_
      refine l_aastW X 1 hKw rfl rfl (fun M h _ => (h.2 p (by omega)).ob) (gDp2 htw) (rfl) (gIx_i (by omega) (by omega)) (L' := [(a, t, .inr (2, [.int (iI m), .int (iI ((N : Nat) : Int)), .ref (ns 0), .ref (ns (N - 1))])), (q, w, .inl (EV.2.1 2, N, .inr (.inr (.inr (.inr (fun j => if j < (p + 1) then some (f j) else none))))))]) (by rw [vup_s]; rfl) ?_
      refine l_run X 1 (pc1 := 30) (ls1 := [_, _, _, _]) (st1 := [_]) rfl ?_
      by_cases h9 : p + 1 < N
      · refine l_getK X (v := .ref (ns (p + 1))) rfl fJ7_36 (fun M h => h.1 (p) (by omega) (by omega)) (by show some (gNx ns N _) = _; rw [gNx_1 h9]) ?_
        refine l_run X 2 (pc1 := 15) (ls1 := [_, _, _, _]) (st1 := []) rfl ?_
        exact ih (p + 1) (by omega)
      · refine l_getK X (v := .null) rfl fJ7_36 (fun M h => h.1 (p) (by omega) (by omega)) (by show some (gNx ns N _) = _; rw [gNx_0 h9]) ?_
        refine l_run X 2 (pc1 := 15) (ls1 := [_, _, _, _]) (st1 := []) rfl ?_
        refine l_run X 3 (pc1 := 38) (ls1 := [_, _, _, _]) (st1 := [_]) rfl ?_
        have e9 : p + 1 = N := by omega
        subst e9
        exact l_aret X hQ rfl rfl (Or.inr ⟨_, rfl⟩) (Or.inr ⟨_, rfl⟩) (Nat.le_of_ble_eq_true rfl) (by first | exact Nat.le_of_ble_eq_true rfl | omega) ⟨q, rfl, rfl⟩
  refine l_eq (ls' := [some (.ref a), none, none, none]) (st' := []) rfl rfl ?_
  refine l_run X 1 (pc1 := 1) (ls1 := [_, _, _, _]) (st1 := [_]) rfl ?_
  refine l_get X 0 rfl fJ7_7 rfl rfl ?_
  refine l_newqW X w hKw 2 (N := N) rfl q2284 (by decide) rfl (iI_n0 (by omega) (by omega)) (iI_c (by omega) (by omega)) (by omega) (rc hR (by omega)) (rs hR (by omega)) (fun q1 => ?_)
  refine l_L (L' := [(a, t, .inr (2, [.int (iI m), .int (iI ((N : Nat) : Int)), .ref (ns 0), .ref (ns (N - 1))])), (q1, w, .inl (EV.2.1 2, N, .inr (.inr (.inr (.inr (fun _ => none))))))]) rfl ?_
  refine l_run X 4 (pc1 := 11) (ls1 := [_, _, _, _]) (st1 := [_]) rfl ?_
  refine l_get X 0 rfl fJ7_18 rfl rfl ?_
  refine l_run X 1 (pc1 := 15) (ls1 := [_, _, _, _]) (st1 := []) rfl ?_
  refine l_L (L' := [(a, t, .inr (2, [.int (iI m), .int (iI ((N : Nat) : Int)), .ref (ns 0), .ref (ns (N - 1))])), (q1, w, .inl (EV.2.1 2, N, .inr (.inr (.inr (.inr (fun j => if j < 0 then some (f j) else none))))))]) (by rw [fk_0]) ?_
  refine l_wide (k' := 1) (n' := N) (by omega) (by omega) ?_
  exact loop q1 (N - 1) 0 (by omega)
set_option maxHeartbeats 1000000 in
theorem jc_addAll_2 (l : Launch) (EV : gEV) {a c li lj N : Nat} (hN : 0 < N ∧ N ≤ 6) {ns f : Nat → Nat} {w : gTag} (htw : (24, li) ≠ w) (hlw : (24, lj) ≠ w) (ht : ∀ p, p < N → w ≠ (25, 8 * li + p)) (hwl : ∀ p, p < N → w ≠ (25, 8 * lj + p)) (hw : 30 ≤ w.1) (hij : li ≠ lj) {m m0 : Int} : JC l yJ7_addAll_2 cJ7_addAll_2 13 (some .boolean) 3 100 300 EV (kNw li N ns f) (tLLw lj w) [.ref a, .int (iI 0), .ref c] [(a, (24, lj), .inr (2, [.int (iI m), .int (iI 0), .null, .null])), (c, (24, li), .inr (2, [.int (iI m0), .int (iI ((N : Nat) : Int)), .ref (ns 0), .ref (ns (N - 1))]))] (fun v9 L9 => ∃ ns9 : Nat → Nat, v9 = some (.int (iI 1)) ∧ L9 = ((a, (24, lj), .inr (2, [.int (iI (m + 1)), .int (iI (0 + ((N : Nat) : Int))), .ref (ns9 0), .ref (ns9 (N - 1))])) : Nat × gTag × va_E) :: (List.range N).map (fun p => gNd lj N p ns9 f)) := by
  refine l_body tbJ7_addAll_2 tkJ7_addAll_2 (by decide) (by intro v hv; simp only [List.mem_cons, List.not_mem_nil, or_false] at hv; rcases hv with rfl | rfl | rfl <;> rfl) (Nat.le_of_ble_eq_true rfl) (fun M0 z Q X hl hR hQ => ?_)
  subst hl
  have hKw : gKT (kNw li N ns f) (tO w) := kNw_T (fun p h2 e => ht p h2 e.symm) (fun x hx => by rw [hx]; omega)
  have hKf : gKT (kNw li N ns f) tF := kNw_T (fun _ _ h => h) (fun _ h => h.elim)
  have loop : ∀ (qa j p : Nat) (ns2 : Nat → Nat), p + 1 + j = N → gLj z (cJ7_addAll_2, yJ7_addAll_2.cls, 13, (some .boolean), tbJ7_addAll_2, yJ7_addAll_2.name) EV Q (kNs lj 0 p N ns2 f) (tLLw lj w) M0 [(a, (24, lj), .inr (2, [.int (iI m), .int (iI 0), .ref (ns2 0), .null])), ((ns2 p), (25, 8 * lj + p), .inr (8, [.ref (f p), .null, gPv ns2 p])), (qa, w, .inl (EV.2.1 2, N, .inr (.inr (.inr (.inr (fun j => if j < N then some (f j) else none))))))] (10 + p) (30 + 3 * p) 68 [some (.ref a), some (.int (iI 0)), some (.ref c), some (.ref qa), some (.int (iI ((N : Nat) : Int))), some (.ref (ns2 p)), some (.null), some (.ref qa), some (.int (iI ((N : Nat) : Int))), some (.int (iI (((p : Nat) : Int) + 1))), some (.ref (f p)), some (.ref (f p)), some (.ref (ns2 p))] [] := by
    intro qa j
    induction j with
    | zero =>
      intro p ns2 hp
      refine l_run X 2 (pc1 := 72) (ls1 := [_, _, _, _, _, _, _, _, _, _, _, _, _]) (st1 := [_, _]) rfl ?_
      refine l_br X (pc1 := 131) (st1 := []) rfl (fun b9 => ?_) (fun b9 => ?_)
      · have c72 : ((N : Nat) : Int) ≤ (((p : Nat) : Int) + 1) := cLe b9 (by omega) (by omega)
        refine l_run X 4 (pc1 := 139) (ls1 := [_, _, _, _, _, _, _, _, _, _, _, _, _]) (st1 := [_, _]) rfl ?_
        refine l_putW X 0 (kNs_T (fun y h1 h2 h => by have := congrArg Prod.fst h; simp at this)) rfl fJ7_27 rfl (by first | exact gDp3 (by simp) hlw (hwl _ (by omega)).symm) (Or.inl (Or.inl rfl)) rfl rfl (Nat.le_of_ble_eq_true rfl) (L' := [(a, (24, lj), .inr (2, [.int (iI m), .int (iI 0), .ref (ns2 0), .ref (ns2 p)])), ((ns2 p), (25, 8 * lj + p), .inr (8, [.ref (f p), .null, gPv ns2 p])), (qa, w, .inl (EV.2.1 2, N, .inr (.inr (.inr (.inr (fun j => if j < N then some (f j) else none))))))]) rfl ?_
        refine l_run X 3 (pc1 := 161) (ls1 := [_, _, _, _, _, _, _, _, _, _, _, _, _]) (st1 := [_, _]) rfl ?_
        refine l_get X 0 rfl fJ7_7 rfl rfl ?_
        refine l_run X 2 (pc1 := 167) (ls1 := [_, _, _, _, _, _, _, _, _, _, _, _, _]) (st1 := [_, _]) rfl ?_
        refine l_eq (ls' := [some (.ref a), some (.int (iI 0)), some (.ref c), some (.ref qa), some (.int (iI ((N : Nat) : Int))), some (.ref (ns2 p)), some (.null), some (.ref qa), some (.int (iI ((N : Nat) : Int))), some (.int (iI (((p : Nat) : Int) + 1))), some (.ref (f p)), some (.ref (f p)), some (.ref (ns2 p))]) (st' := [.int (iI (0 + ((N : Nat) : Int))), .ref a]) (by simp only [iI_add, iI_sub, iI_mul, iI_neg]) (by simp only [iI_add, iI_sub, iI_mul, iI_neg]) ?_
        refine l_putW X 0 (kNs_T (fun y h1 h2 h => by have := congrArg Prod.fst h; simp at this)) rfl fJ7_7 rfl (by first | exact gDp3 (by simp) hlw (hwl _ (by omega)).symm) (Or.inl (Or.inl rfl)) rfl rfl (Nat.le_of_ble_eq_true rfl) (L' := [(a, (24, lj), .inr (2, [.int (iI m), .int (iI (0 + ((N : Nat) : Int))), .ref (ns2 0), .ref (ns2 p)])), ((ns2 p), (25, 8 * lj + p), .inr (8, [.ref (f p), .null, gPv ns2 p])), (qa, w, .inl (EV.2.1 2, N, .inr (.inr (.inr (.inr (fun j => if j < N then some (f j) else none))))))]) rfl ?_
        refine l_run X 2 (pc1 := 172) (ls1 := [_, _, _, _, _, _, _, _, _, _, _, _, _]) (st1 := [_, _]) rfl ?_
        refine l_get X 0 rfl fJ7_33_2 rfl rfl ?_
        refine l_run X 2 (pc1 := 177) (ls1 := [_, _, _, _, _, _, _, _, _, _, _, _, _]) (st1 := [_, _]) rfl ?_
        refine l_eq (ls' := [some (.ref a), some (.int (iI 0)), some (.ref c), some (.ref qa), some (.int (iI ((N : Nat) : Int))), some (.ref (ns2 p)), some (.null), some (.ref qa), some (.int (iI ((N : Nat) : Int))), some (.int (iI (((p : Nat) : Int) + 1))), some (.ref (f p)), some (.ref (f p)), some (.ref (ns2 p))]) (st' := [.int (iI (m + 1)), .ref a]) (by simp only [iI_add, iI_sub, iI_mul, iI_neg]) (by simp only [iI_add, iI_sub, iI_mul, iI_neg]) ?_
        refine l_putW X 0 (kNs_T (fun y h1 h2 h => by have := congrArg Prod.fst h; simp at this)) rfl fJ7_33_2 rfl (by first | exact gDp3 (by simp) hlw (hwl _ (by omega)).symm) (Or.inl (Or.inl rfl)) rfl rfl (Nat.le_of_ble_eq_true rfl) (L' := [(a, (24, lj), .inr (2, [.int (iI (m + 1)), .int (iI (0 + ((N : Nat) : Int))), .ref (ns2 0), .ref (ns2 p)])), ((ns2 p), (25, 8 * lj + p), .inr (8, [.ref (f p), .null, gPv ns2 p])), (qa, w, .inl (EV.2.1 2, N, .inr (.inr (.inr (.inr (fun j => if j < N then some (f j) else none))))))]) rfl ?_
        refine l_run X 1 (pc1 := 181) (ls1 := [_, _, _, _, _, _, _, _, _, _, _, _, _]) (st1 := [_]) rfl ?_
        have e9 : p + 1 = N := by omega
        refine l_K (K2 := kNs lj 0 N N ns2 f) (fun M h hL => kNs_last h (hL.at (i := 1) rfl) e9) ?_
        refine l_sub [0] (L' := [(a, (24, lj), .inr (2, [.int (iI (m + 1)), .int (iI (0 + ((N : Nat) : Int))), .ref (ns2 0), .ref (ns2 p)]))]) rfl ?_
        refine l_takeL (L2 := (List.range N).map (fun p => gNd lj N p ns2 f)) (fun M h => kNs_L h) ?_
        exact l_zret X hQ rfl rfl rfl (by omega) (by omega) ⟨ns2, rfl, by rw [show N - 1 = p by omega]; first | rfl | simp⟩
      · have c72 : (((p : Nat) : Int) + 1) < ((N : Nat) : Int) := cNe b9 (by omega) (by omega)
        exact absurd c72 (by omega)
    | succ j ih =>
      intro p ns2 hp
      refine l_run X 2 (pc1 := 72) (ls1 := [_, _, _, _, _, _, _, _, _, _, _, _, _]) (st1 := [_, _]) rfl ?_
      refine l_br X (pc1 := 131) (st1 := []) rfl (fun b9 => ?_) (fun b9 => ?_)
      · have c72 : ((N : Nat) : Int) ≤ (((p : Nat) : Int) + 1) := cLe b9 (by omega) (by omega)
        exact absurd c72 (by omega)
      · have c72 : (((p : Nat) : Int) + 1) < ((N : Nat) : Int) := cNe b9 (by omega) (by omega)
        refine l_run X 2 (pc1 := 79) (ls1 := [_, _, _, _, _, _, _, _, _, _, _, _, _]) (st1 := [_, _]) rfl ?_
        refine l_aald X 2 2 (v := .ref (f (p + 1))) rfl rfl rfl (gIx_i (by omega) (by omega)) (by show va_rf (if _ < N then _ else _) = _; rw [if_pos (by omega)]; rfl) ?_
        refine l_run X 3 (pc1 := 86) (ls1 := [_, _, _, _, _, _, _, _, _, _, _, _, _]) (st1 := []) rfl ?_
        refine l_newW X (25, 8 * lj + (p + 1)) (kNs_T (fun y h1 h2 h => by have := congrArg Prod.snd h; simp at this; omega)) rfl nJ7_22 (rc hR (by omega)) (rs hR (by omega)) (fun q1 => ?_)
        refine l_L (L' := [(a, (24, lj), .inr (2, [.int (iI m), .int (iI 0), .ref (ns2 0), .null])), ((ns2 p), (25, 8 * lj + p), .inr (8, [.ref (f p), .null, gPv ns2 p])), (qa, w, .inl (EV.2.1 2, N, .inr (.inr (.inr (.inr (fun j => if j < N then some (f j) else none)))))), (q1, (25, 8 * lj + (p + 1)), .inr (8, [.null, .null, .null]))]) rfl ?_
        refine l_run X 4 (pc1 := 95) (ls1 := [_, _, _, _, _, _, _, _, _, _, _, _, _]) (st1 := [_, _, _, _, _]) rfl ?_
        refine l_callIW X ((kNs_T (fun y h1 h2 h => by have := congrArg Prod.snd h; simp at this; omega))) [3] [0, 1, 2] rfl mJ7_24 (jc_J29_initN z.2.1 EV (w := (25, 8 * lj + (p + 1)))) (fun _ _ _ => trivial) rfl rfl (fun _ h => Or.inl (Or.inr (by rw [h]; exact ⟨rfl, by show (8 * lj + (p + 1)) / 8 = lj; omega⟩))) (fun y hy => by simp at hy; rcases hy with rfl | rfl | rfl <;> first | (intro h; have := congrArg Prod.fst h; simp at this; done) | (intro h; have := congrArg Prod.snd h; simp at this; done) | (intro h; have := congrArg Prod.snd h; simp at this; omega) | exact hwl _ (by omega)) rfl rfl (Nat.le_of_ble_eq_true rfl) (gFit.of hR (Nat.le_of_ble_eq_true rfl) (by omega) (by omega)) (fun v9 L9 h9 => ?_)
        obtain ⟨rfl, rfl⟩ := h9
        refine l_eq (st' := [.ref q1]) rfl rfl ?_
        refine l_L (L' := [(q1, (25, 8 * lj + (p + 1)), .inr (8, [.ref (f (p + 1)), .null, .ref (ns2 p)])), (a, (24, lj), .inr (2, [.int (iI m), .int (iI 0), .ref (ns2 0), .null])), ((ns2 p), (25, 8 * lj + p), .inr (8, [.ref (f p), .null, gPv ns2 p])), (qa, w, .inl (EV.2.1 2, N, .inr (.inr (.inr (.inr (fun j => if j < N then some (f j) else none))))))]) rfl ?_
        refine l_run X 5 (pc1 := 118) (ls1 := [_, _, _, _, _, _, _, _, _, _, _, _, _]) (st1 := [_, _]) rfl ?_
        refine l_putW X 2 (kNs_T (fun y h1 h2 h => by have := congrArg Prod.snd h; simp at this; omega)) rfl fJ7_36 rfl (gDp4 (by simp) (by simp) (by exact (hwl _ (by omega)).symm) (by simp) (by first | exact hlw | exact hlw.symm) (by exact (hwl _ (by omega)).symm)) (Or.inl (Or.inr ⟨rfl, by show (8 * lj + p) / 8 = lj; omega⟩)) rfl rfl (Nat.le_of_ble_eq_true rfl) (L' := [(q1, (25, 8 * lj + (p + 1)), .inr (8, [.ref (f (p + 1)), .null, .ref (ns2 p)])), (a, (24, lj), .inr (2, [.int (iI m), .int (iI 0), .ref (ns2 0), .null])), ((ns2 p), (25, 8 * lj + p), .inr (8, [.ref (f p), .ref q1, gPv ns2 p])), (qa, w, .inl (EV.2.1 2, N, .inr (.inr (.inr (.inr (fun j => if j < N then some (f j) else none))))))]) rfl ?_
        refine l_run X 4 (pc1 := 68) (ls1 := [_, _, _, _, _, _, _, _, _, _, _, _, _]) (st1 := []) rfl ?_
        refine l_eq (ls' := [some (.ref a), some (.int (iI 0)), some (.ref c), some (.ref qa), some (.int (iI ((N : Nat) : Int))), some (.ref q1), some (.null), some (.ref qa), some (.int (iI ((N : Nat) : Int))), some (.int (iI ((((p : Nat) : Int) + 1) + 1))), some (.ref (f (p + 1))), some (.ref (f (p + 1))), some (.ref q1)]) (st' := []) (by simp only [iI_add, iI_sub, iI_mul, iI_neg]) (by simp only [iI_add, iI_sub, iI_mul, iI_neg]) ?_
        obtain ⟨ns3, e1, e2⟩ : ∃ ns3 : Nat → Nat, ns3 (p + 1) = q1 ∧ ∀ x, x ≤ p → ns3 x = ns2 x := ⟨fun x => if x = p + 1 then q1 else ns2 x, if_pos rfl, fun x hx => if_neg (by omega)⟩
        refine l_K (K2 := kNs lj 0 (p + 1) N ns3 f) (fun M h hL => kNs_more h (hL.at (i := 2) rfl) e1 e2 (by omega)) ?_
        refine l_sub [1, 0, 3] (L' := [(a, (24, lj), .inr (2, [.int (iI m), .int (iI 0), .ref (ns2 0), .null])), (q1, (25, 8 * lj + (p + 1)), .inr (8, [.ref (f (p + 1)), .null, .ref (ns2 p)])), (qa, w, .inl (EV.2.1 2, N, .inr (.inr (.inr (.inr (fun j => if j < N then some (f j) else none))))))]) rfl ?_
        refine l_wide (k' := 10 + (p + 1)) (n' := 30 + 3 * (p + 1)) (by omega) (by omega) ?_
        have h9 := ih (p + 1) ns3 (by omega)
        rw [e1, e2 0 (by omega), gPv_1 (by omega), show p + 1 - 1 = p from rfl, e2 p (Nat.le_refl _)] at h9
        exact h9
  refine l_eq (ls' := [some (.ref a), some (.int (iI 0)), some (.ref c), none, none, none, none, none, none, none, none, none, none]) (st' := []) rfl rfl ?_
  refine l_run X 2 (pc1 := 2) (ls1 := [_, _, _, _, _, _, _, _, _, _, _, _, _]) (st1 := [_, _]) rfl ?_
  refine l_callVW X (hKf) [0] [1] 0 rfl mJ7_76 (jc_chkPos z.2.1 EV (x := 0) (by omega) (by omega)) rfl (fun _ _ _ => trivial) rfl rfl (fun _ h => h.elim) (fun _ _ h => h) rfl rfl (Nat.le_of_ble_eq_true rfl) (gFit.of hR (Nat.le_of_ble_eq_true rfl) (Nat.le_of_ble_eq_true rfl) (Nat.le_of_ble_eq_true rfl)) (fun v9 L9 h9 => ?_)
  obtain ⟨rfl, rfl⟩ := h9
  refine l_eq (st' := []) rfl rfl ?_
  refine l_L (L' := [(a, (24, lj), .inr (2, [.int (iI m), .int (iI 0), .null, .null])), (c, (24, li), .inr (2, [.int (iI m0), .int (iI ((N : Nat) : Int)), .ref (ns 0), .ref (ns (N - 1))]))]) rfl ?_
  refine l_run X 1 (pc1 := 6) (ls1 := [_, _, _, _, _, _, _, _, _, _, _, _, _]) (st1 := [_]) rfl ?_
  refine l_callFW X (hKw) [1] [0] 1 rfl mJ7_80_2 (jc_toArray z.2.1 EV hN (f := f) htw ht hw) rfl (fun _ h _ => h) rfl rfl (fun _ h => Or.inr h) (fun y hy => by simp at hy; subst hy; exact hlw) rfl rfl (Nat.le_of_ble_eq_true rfl) (gFit.of hR (Nat.le_of_ble_eq_true rfl) (Nat.le_of_ble_eq_true rfl) (Nat.le_of_ble_eq_true rfl)) (fun v9 L9 h9 => ?_)
  obtain ⟨qa, rfl, rfl⟩ := h9
  refine l_eq (st' := [.ref qa]) rfl rfl ?_
  refine l_L (L' := [(c, (24, li), .inr (2, [.int (iI m0), .int (iI ((N : Nat) : Int)), .ref (ns 0), .ref (ns (N - 1))])), (qa, w, .inl (EV.2.1 2, N, .inr (.inr (.inr (.inr (fun j => if j < N then some (f j) else none)))))), (a, (24, lj), .inr (2, [.int (iI m), .int (iI 0), .null, .null]))]) rfl ?_
  refine l_run X 2 (pc1 := 13) (ls1 := [_, _, _, _, _, _, _, _, _, _, _, _, _]) (st1 := [_]) rfl ?_
  refine l_alen X 1 2 rfl rfl rfl (iI_ofNat N) ?_
  refine l_run X 2 (pc1 := 18) (ls1 := [_, _, _, _, _, _, _, _, _, _, _, _, _]) (st1 := [_]) rfl ?_
  refine l_br X (pc1 := 23) (st1 := []) rfl (fun b9 => ?_) (fun b9 => ?_)
  · have c18 : ¬ ((N : Nat) : Int) = 0 := cNq b9 (by omega) (by omega)
    refine l_run X 2 (pc1 := 25) (ls1 := [_, _, _, _, _, _, _, _, _, _, _, _, _]) (st1 := [_, _]) rfl ?_
    refine l_get X 2 rfl fJ7_7 rfl rfl ?_
    refine l_br X (pc1 := 43) (st1 := []) rfl (fun b9 => ?_) (fun b9 => ?_)
    · have c28 : ¬ (0 : Int) = (0 : Int) := cNq b9 (by omega) (by omega)
      exact absurd rfl c28
    · have c28 : (0 : Int) = (0 : Int) := cEq b9 (by omega) (by omega)
      refine l_run X 3 (pc1 := 35) (ls1 := [_, _, _, _, _, _, _, _, _, _, _, _, _]) (st1 := [_]) rfl ?_
      refine l_get X 2 rfl fJ7_27 rfl rfl ?_
      refine l_run X 2 (pc1 := 57) (ls1 := [_, _, _, _, _, _, _, _, _, _, _, _, _]) (st1 := []) rfl ?_
      refine l_K (K2 := kNs lj 0 0 N ns f) (fun M h hL p h1 h2 => absurd h2 (by omega)) ?_
      refine l_sub [2, 1] (L' := [(a, (24, lj), .inr (2, [.int (iI m), .int (iI 0), .null, .null])), (qa, w, .inl (EV.2.1 2, N, .inr (.inr (.inr (.inr (fun j => if j < N then some (f j) else none))))))]) rfl ?_
      refine l_run X 3 (pc1 := 62) (ls1 := [_, _, _, _, _, _, _, _, _, _, _, _, _]) (st1 := [_]) rfl ?_
      refine l_alen X 1 2 rfl rfl rfl (iI_ofNat N) ?_
      refine l_run X 3 (pc1 := 68) (ls1 := [_, _, _, _, _, _, _, _, _, _, _, _, _]) (st1 := []) rfl ?_
      refine l_run X 2 (pc1 := 72) (ls1 := [_, _, _, _, _, _, _, _, _, _, _, _, _]) (st1 := [_, _]) rfl ?_
      refine l_br X (pc1 := 131) (st1 := []) rfl (fun b9 => ?_) (fun b9 => ?_)
      · have c72 : ((N : Nat) : Int) ≤ 0 := cLe b9 (by omega) (by omega)
        exact absurd c72 (by omega)
      · have c72 : 0 < ((N : Nat) : Int) := cNe b9 (by omega) (by omega)
        refine l_run X 2 (pc1 := 79) (ls1 := [_, _, _, _, _, _, _, _, _, _, _, _, _]) (st1 := [_, _]) rfl ?_
        refine l_aald X 1 2 (v := .ref (f 0)) rfl rfl rfl (gIx_i (by omega) (by omega)) (by show va_rf (if _ < N then _ else _) = _; rw [if_pos (by omega)]; rfl) ?_
        refine l_run X 3 (pc1 := 86) (ls1 := [_, _, _, _, _, _, _, _, _, _, _, _, _]) (st1 := []) rfl ?_
        refine l_newW X (25, 8 * lj + 0) (kNs_T (fun y h1 h2 h => by have := congrArg Prod.snd h; simp at this; omega)) rfl nJ7_22 (rc hR (Nat.le_of_ble_eq_true rfl)) (rs hR (Nat.le_of_ble_eq_true rfl)) (fun q1 => ?_)
        refine l_L (L' := [(a, (24, lj), .inr (2, [.int (iI m), .int (iI 0), .null, .null])), (qa, w, .inl (EV.2.1 2, N, .inr (.inr (.inr (.inr (fun j => if j < N then some (f j) else none)))))), (q1, (25, 8 * lj + 0), .inr (8, [.null, .null, .null]))]) rfl ?_
        refine l_run X 4 (pc1 := 95) (ls1 := [_, _, _, _, _, _, _, _, _, _, _, _, _]) (st1 := [_, _, _, _, _]) rfl ?_
        refine l_callIW X ((kNs_T (fun y h1 h2 h => by have := congrArg Prod.snd h; simp at this; omega))) [2] [0, 1] rfl mJ7_24 (jc_J29_initE z.2.1 EV (w := (25, 8 * lj + 0))) (fun _ _ _ => trivial) rfl rfl (fun _ h => Or.inl (Or.inr (by rw [h]; exact ⟨rfl, by show (8 * lj + 0) / 8 = lj; omega⟩))) (fun y hy => by simp at hy; rcases hy with rfl | rfl <;> first | (intro h; have := congrArg Prod.fst h; simp at this; done) | exact hwl 0 (by omega)) rfl rfl (Nat.le_of_ble_eq_true rfl) (gFit.of hR (Nat.le_of_ble_eq_true rfl) (Nat.le_of_ble_eq_true rfl) (Nat.le_of_ble_eq_true rfl)) (fun v9 L9 h9 => ?_)
        obtain ⟨rfl, rfl⟩ := h9
        refine l_eq (st' := [.ref q1]) rfl rfl ?_
        refine l_L (L' := [(q1, (25, 8 * lj + 0), .inr (8, [.ref (f 0), .null, .null])), (a, (24, lj), .inr (2, [.int (iI m), .int (iI 0), .null, .null])), (qa, w, .inl (EV.2.1 2, N, .inr (.inr (.inr (.inr (fun j => if j < N then some (f j) else none))))))]) rfl ?_
        refine l_run X 5 (pc1 := 108) (ls1 := [_, _, _, _, _, _, _, _, _, _, _, _, _]) (st1 := [_, _]) rfl ?_
        refine l_putW X 1 (kNs_T (fun y h1 h2 h => by have := congrArg Prod.fst h; simp at this)) rfl fJ7_18 rfl (gDp3 (by simp) (hwl 0 (by omega)).symm hlw) (Or.inl (Or.inl rfl)) rfl rfl (Nat.le_of_ble_eq_true rfl) (L' := [(q1, (25, 8 * lj + 0), .inr (8, [.ref (f 0), .null, .null])), (a, (24, lj), .inr (2, [.int (iI m), .int (iI 0), .ref q1, .null])), (qa, w, .inl (EV.2.1 2, N, .inr (.inr (.inr (.inr (fun j => if j < N then some (f j) else none))))))]) rfl ?_
        refine l_run X 5 (pc1 := 68) (ls1 := [_, _, _, _, _, _, _, _, _, _, _, _, _]) (st1 := []) rfl ?_
        refine l_eq (ls' := [some (.ref a), some (.int (iI 0)), some (.ref c), some (.ref qa), some (.int (iI ((N : Nat) : Int))), some (.ref q1), some (.null), some (.ref qa), some (.int (iI ((N : Nat) : Int))), some (.int (iI (0 + 1))), some (.ref (f 0)), some (.ref (f 0)), some (.ref q1)]) (st' := []) (by simp only [iI_add, iI_sub, iI_mul, iI_neg]) (by simp only [iI_add, iI_sub, iI_mul, iI_neg]) ?_
        refine l_K (K2 := kNs lj 0 0 N (fun _ => q1) f) (fun M h hL p h1 h2 => absurd h2 (by omega)) ?_
        refine l_sub [1, 0, 2] (L' := [(a, (24, lj), .inr (2, [.int (iI m), .int (iI 0), .ref q1, .null])), (q1, (25, 8 * lj + 0), .inr (8, [.ref (f 0), .null, .null])), (qa, w, .inl (EV.2.1 2, N, .inr (.inr (.inr (.inr (fun j => if j < N then some (f j) else none))))))]) rfl ?_
        refine l_wide (k' := 10 + 0) (n' := 30 + 3 * 0) (by omega) (by omega) ?_
        exact loop qa (N - 1) 0 (fun _ => q1) (by omega)
  · have c18 : ((N : Nat) : Int) = 0 := cEq b9 (by omega) (by omega)
    exact absurd c18 (by omega)
set_option maxHeartbeats 1000000 in
theorem jc_addAll (l : Launch) (EV : gEV) {a c li lj N : Nat} (hN : 0 < N ∧ N ≤ 6) {ns f : Nat → Nat} {w : gTag} (htw : (24, li) ≠ w) (hlw : (24, lj) ≠ w) (ht : ∀ p, p < N → w ≠ (25, 8 * li + p)) (hwl : ∀ p, p < N → w ≠ (25, 8 * lj + p)) (hw : 30 ≤ w.1) (hij : li ≠ lj) {m m0 : Int} : JC l yJ7_addAll cJ7_addAll 2 (some .boolean) 4 100 300 EV (kNw li N ns f) (tLLw lj w) [.ref a, .ref c] [(a, (24, lj), .inr (2, [.int (iI m), .int (iI 0), .null, .null])), (c, (24, li), .inr (2, [.int (iI m0), .int (iI ((N : Nat) : Int)), .ref (ns 0), .ref (ns (N - 1))]))] (fun v9 L9 => ∃ ns9 : Nat → Nat, v9 = some (.int (iI 1)) ∧ L9 = ((a, (24, lj), .inr (2, [.int (iI (m + 1)), .int (iI (0 + ((N : Nat) : Int))), .ref (ns9 0), .ref (ns9 (N - 1))])) : Nat × gTag × va_E) :: (List.range N).map (fun p => gNd lj N p ns9 f)) := by
  refine l_body tbJ7_addAll tkJ7_addAll (by decide) (by intro v hv; simp only [List.mem_cons, List.not_mem_nil, or_false] at hv; rcases hv with rfl | rfl <;> rfl) (Nat.le_of_ble_eq_true rfl) (fun M0 z Q X hl hR hQ => ?_)
  subst hl
  have hKf2 : gKT (kNw li N ns f) (tLLw lj w) := kNw_T (fun p h2 e => tLLw_n (by omega) hij (ht p h2) e) (fun x hx => tLLw_g (by omega) x hx)
  refine l_eq (ls' := [some (.ref a), some (.ref c)]) (st' := []) rfl rfl ?_
  refine l_run X 2 (pc1 := 2) (ls1 := [_, _]) (st1 := [_, _]) rfl ?_
  refine l_get X 0 rfl fJ7_7 rfl rfl ?_
  refine l_run X 1 (pc1 := 6) (ls1 := [_, _]) (st1 := [_, _, _]) rfl ?_
  refine l_callVW X hKf2 [0, 1] [] 0 rfl mJ7_73 (jc_addAll_2 z.2.1 EV hN (f := f) htw hlw ht hwl hw hij) rfl (fun _ h _ => h) rfl rfl (fun _ h => h) (fun _ h => by cases h) rfl rfl (Nat.le_of_ble_eq_true rfl) (gFit.of hR (Nat.le_of_ble_eq_true rfl) (Nat.le_of_ble_eq_true rfl) (Nat.le_of_ble_eq_true rfl)) (fun v9 L9 h9 => ?_)
  obtain ⟨ns9, rfl, rfl⟩ := h9
  exact l_zret X hQ rfl rfl rfl (by decide) (by decide) ⟨ns9, rfl, List.append_nil _⟩
set_option maxHeartbeats 1000000 in
theorem jc_init_2 (l : Launch) (EV : gEV) {a c li lj N : Nat} (hN : 0 < N ∧ N ≤ 6) {ns f : Nat → Nat} {w : gTag} (htw : (24, li) ≠ w) (hlw : (24, lj) ≠ w) (ht : ∀ p, p < N → w ≠ (25, 8 * li + p)) (hwl : ∀ p, p < N → w ≠ (25, 8 * lj + p)) (hw : 30 ≤ w.1) (hij : li ≠ lj) {m0 : Int} : JC l yJ7_init_2 cJ7_init_2 2 none 5 100 300 EV (kNw li N ns f) (tLLw lj w) [.ref a, .ref c] [(a, (24, lj), .inr (2, [.int (iI 0), .int (iI 0), .null, .null])), (c, (24, li), .inr (2, [.int (iI m0), .int (iI ((N : Nat) : Int)), .ref (ns 0), .ref (ns (N - 1))]))] (fun v9 L9 => ∃ ns9 : Nat → Nat, v9 = none ∧ L9 = ((a, (24, lj), .inr (2, [.int (iI (0 + 1)), .int (iI (0 + ((N : Nat) : Int))), .ref (ns9 0), .ref (ns9 (N - 1))])) : Nat × gTag × va_E) :: (List.range N).map (fun p => gNd lj N p ns9 f)) := by
  refine l_body tbJ7_init_2 tkJ7_init_2 (by decide) (by intro v hv; simp only [List.mem_cons, List.not_mem_nil, or_false] at hv; rcases hv with rfl | rfl <;> rfl) (Nat.le_of_ble_eq_true rfl) (fun M0 z Q X hl hR hQ => ?_)
  subst hl
  have hKf2 : gKT (kNw li N ns f) (tLLw lj w) := kNw_T (fun p h2 e => tLLw_n (by omega) hij (ht p h2) e) (fun x hx => tLLw_g (by omega) x hx)
  have hKf3 : gKT (kNw li N ns f) (tO (24, lj)) := fun _ _ hF h => hKf2 _ _ (hF.mono (fun _ e => Or.inl (Or.inl e))) h
  refine l_eq (ls' := [some (.ref a), some (.ref c)]) (st' := []) rfl rfl ?_
  refine l_run X 1 (pc1 := 1) (ls1 := [_, _]) (st1 := [_]) rfl ?_
  refine l_callIW X (hKf3) [0] [1] rfl mJ7_13 (jc_J7_init z.2.1 EV (t := (24, lj))) (fun _ _ _ => trivial) rfl rfl (fun _ h => Or.inl (Or.inl h)) (fun y hy => by simp at hy; subst hy; simp [tO, hij]) rfl rfl (Nat.le_of_ble_eq_true rfl) (gFit.of hR (Nat.le_of_ble_eq_true rfl) (Nat.le_of_ble_eq_true rfl) (Nat.le_of_ble_eq_true rfl)) (fun v9 L9 h9 => ?_)
  obtain ⟨rfl, rfl⟩ := h9
  refine l_eq (st' := []) rfl rfl ?_
  refine l_L (L' := [(a, (24, lj), .inr (2, [.int (iI 0), .int (iI 0), .null, .null])), (c, (24, li), .inr (2, [.int (iI m0), .int (iI ((N : Nat) : Int)), .ref (ns 0), .ref (ns (N - 1))]))]) rfl ?_
  refine l_run X 2 (pc1 := 6) (ls1 := [_, _]) (st1 := [_, _]) rfl ?_
  refine l_callVW X hKf2 [0, 1] [] 0 rfl mJ7_14 (jc_addAll z.2.1 EV hN (f := f) htw hlw ht hwl hw hij) rfl (fun _ h _ => h) rfl rfl (fun _ h => h) (fun _ h => by cases h) rfl rfl (Nat.le_of_ble_eq_true rfl) (gFit.of hR (Nat.le_of_ble_eq_true rfl) (Nat.le_of_ble_eq_true rfl) (Nat.le_of_ble_eq_true rfl)) (fun v9 L9 h9 => ?_)
  obtain ⟨ns9, rfl, rfl⟩ := h9
  refine l_run X 1 (pc1 := 10) (ls1 := [_, _]) (st1 := []) rfl ?_
  exact l_vret X hQ rfl rfl (by decide) (by decide) ⟨ns9, rfl, List.append_nil _⟩
