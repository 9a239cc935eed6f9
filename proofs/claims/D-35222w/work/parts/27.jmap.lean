/-! LinkedHashMap of the pairs, walked over local pictures -/
theorem ush0_all : ∀ a : Fin 16, ((iI (a.val : Int)).toUInt32 >>> ((iI 16).toUInt32 &&& Int32.toUInt32 31)).toInt32 = iI 0 := by decide +kernel
theorem ush0 {h : Int} (hh : 0 ≤ h ∧ h < 16) : ((iI h).toUInt32 >>> ((iI 16).toUInt32 &&& Int32.toUInt32 31)).toInt32 = iI 0 := by
  obtain ⟨i, rfl⟩ : ∃ i : Nat, h = i := ⟨h.toNat, by omega⟩
  exact ush0_all ⟨i, by omega⟩
theorem xor0_all : ∀ a : Fin 16, iI (a.val : Int) ^^^ iI 0 = iI (a.val : Int) := by decide +kernel
theorem xor0 {h : Int} (hh : 0 ≤ h ∧ h < 16) : iI h ^^^ iI 0 = iI h := by
  obtain ⟨i, rfl⟩ : ∃ i : Nat, h = i := ⟨h.toNat, by omega⟩
  exact xor0_all ⟨i, by omega⟩
theorem l_aastM {z : gZ} {S : gS} {EV : gEV} {Q : State → Prop} {M0 : gM} {K : gM → Prop} {T : gTag → Prop} {L L' : gLL} {k n pc : Nat} {ls : List (Option Value)} {st : List Value} (X : CX z S EV) (hK : gKT K T) (j0 jv : Nat) {a v : Nat} {t tv : gTag} {fs : List Value} {N j : Nat} {f : Nat → Option Nat} {x : Int32} (hT : S.2.2.2.2.1 pc = some (.aastore, 1)) (hL : L[j0]? = some (a, t, .inl (EV.2.1 4, N, .inr (.inr (.inr (.inr f)))))) (hv : L[jv]? = some (v, tv, .inr (6, fs))) (hca : Cond.castable "java/util/LinkedHashMap$Entry" "java/util/HashMap$Node" ∈ lw_tbl) (hd : gDp L) (hTt : T t) (hx : gIx x N j)
    (hL' : L.set j0 (a, t, .inl (EV.2.1 4, N, .inr (.inr (.inr (.inr (va_up f j (some v))))))) = L') (kk : gLj z S EV Q K T M0 L' k n (pc + 1) ls st) : gLj z S EV Q K T M0 L k n pc ls (.ref v :: .int x :: .ref a :: st) := by
  intro M h1 h2 h3
  subst hL'
  exact g_aast X 4 6 hT rfl (h2.at hL) (h2.at hv) rfl (Or.inl hca) hx rfl (kk _ (hK _ _ (gFr.up (h2.at hL) hTt) h1) (h2.put hd hL) (h3.upT (h2.at hL) hTt))
theorem and15_all : ∀ a : Fin 16, iI (16 - 1) &&& iI (a.val : Int) = iI (a.val : Int) := by decide +kernel
theorem and15 {h : Int} (hh : 0 ≤ h ∧ h < 16) : iI (16 - 1) &&& iI h = iI h := by
  obtain ⟨i, rfl⟩ : ∃ i : Nat, h = i := ⟨h.toNat, by omega⟩
  exact and15_all ⟨i, by omega⟩
set_option maxHeartbeats 1000000 in
theorem jc_pair_init (l : Launch) (EV : gEV) {p : Nat} {t : gTag} {x y : Int} (hx : inR x) (hy : inR y) : JC l yX2_init cX2_init 3 none 2 0 0 EV kT (tO t) [.ref p, .int (iI x), .int (iI y)] [(p, t, .inr (4, [.int (iI 0), .int (iI 0)]))] (jP none [(p, t, .inr (4, [.int (iI (if y < x then y else x)), .int (iI (if x < y then y else x))]))]) := by
  refine l_body tbX2_init tkX2_init (by decide) (by intro v hv; simp only [List.mem_cons, List.not_mem_nil, or_false] at hv; rcases hv with rfl | rfl | rfl <;> rfl) (Nat.le_of_ble_eq_true rfl) (fun M0 z Q X hl hR hQ => ?_)
  subst hl
  refine l_eq (ls' := [some (.ref p), some (.int (iI x)), some (.int (iI y))]) (st' := []) rfl rfl ?_
  refine l_run X 1 (pc1 := 1) (ls1 := [_, _, _]) (st1 := [_]) rfl ?_
  refine l_oinit X rfl q313 ⟨by rw [hR]; exact Nat.le_of_ble_eq_true rfl, by rw [hR]; exact Nat.le_of_ble_eq_true rfl⟩ (Nat.le_of_ble_eq_true rfl) ?_
  refine l_run X 3 (pc1 := 7) (ls1 := [_, _, _]) (st1 := [_, _, _]) rfl ?_
  refine l_min X rfl q314 hR (Nat.le_of_ble_eq_true rfl) (Nat.le_of_ble_eq_true rfl) (Nat.le_of_ble_eq_true rfl) (by omega) (by omega) ?_
  refine l_putF X gKt 0 rfl rfl fX2_15 rfl (gDb_s rfl) (rfl) rfl rfl (Nat.le_of_ble_eq_true rfl) (L' := [(p, t, .inr (4, [.int (iI (if y < x then y else x)), .int (iI 0)]))]) rfl ?_
  refine l_run X 3 (pc1 := 16) (ls1 := [_, _, _]) (st1 := [_, _, _]) rfl ?_
  refine l_max X rfl q315 hR (Nat.le_of_ble_eq_true rfl) (Nat.le_of_ble_eq_true rfl) (Nat.le_of_ble_eq_true rfl) (by omega) (by omega) ?_
  refine l_putF X gKt 0 rfl rfl fX2_24 rfl (gDb_s rfl) (rfl) rfl rfl (Nat.le_of_ble_eq_true rfl) (L' := [(p, t, .inr (4, [.int (iI (if y < x then y else x)), .int (iI (if x < y then y else x))]))]) rfl ?_
  exact l_vret X hQ rfl rfl (Nat.le_of_ble_eq_true rfl) (Nat.le_of_ble_eq_true rfl) ⟨rfl, rfl⟩
set_option maxHeartbeats 1000000 in
theorem jc_pair_hash (l : Launch) (EV : gEV) {p : Nat} {t : gTag} {lo hi : Int} : JC l yX2_hashCode cX2_hashCode 1 (some .int) 1 0 0 EV kT tF [.ref p] [(p, t, .inr (4, [.int (iI lo), .int (iI hi)]))] (jP (some (.int (iI ((3 * lo) + hi)))) [(p, t, .inr (4, [.int (iI lo), .int (iI hi)]))]) := by
  refine l_body tbX2_hashCode tkX2_hashCode (by decide) (by intro v hv; simp only [List.mem_cons, List.not_mem_nil, or_false] at hv; rcases hv with rfl <;> rfl) (Nat.le_of_ble_eq_true rfl) (fun M0 z Q X hl hR hQ => ?_)
  subst hl
  refine l_eq (ls' := [some (.ref p)]) (st' := []) rfl rfl ?_
  refine l_run X 2 (pc1 := 2) (ls1 := [_]) (st1 := [_, _]) rfl ?_
  refine l_get X 0 rfl fX2_15 rfl rfl ?_
  refine l_run X 2 (pc1 := 7) (ls1 := [_]) (st1 := [_, _]) rfl ?_
  refine l_eq (ls' := [some (.ref p)]) (st' := [.ref p, .int (iI (3 * lo))]) (by simp only [iI_add, iI_sub, iI_mul, iI_neg]) (by simp only [iI_add, iI_sub, iI_mul, iI_neg]) ?_
  refine l_get X 0 rfl fX2_24 rfl rfl ?_
  refine l_run X 1 (pc1 := 11) (ls1 := [_]) (st1 := [_]) rfl ?_
  refine l_eq (ls' := [some (.ref p)]) (st' := [.int (iI ((3 * lo) + hi))]) (by simp only [iI_add, iI_sub, iI_mul, iI_neg]) (by simp only [iI_add, iI_sub, iI_mul, iI_neg]) ?_
  exact l_iret X hQ rfl rfl (Nat.le_of_ble_eq_true rfl) (Nat.le_of_ble_eq_true rfl) ⟨rfl, rfl⟩
set_option maxHeartbeats 1000000 in
theorem jc_pair_eq (l : Launch) (EV : gEV) {p k : Nat} {t u : gTag} {lo hi lo2 hi2 : Int} (h1 : inR lo) (h2 : inR hi) (h3 : inR lo2) (h4 : inR hi2) : JC l yX2_equals cX2_equals 2 (some .boolean) 1 0 0 EV kT tF [.ref p, .ref k] [(p, t, .inr (4, [.int (iI lo), .int (iI hi)])), (k, u, .inr (4, [.int (iI lo2), .int (iI hi2)]))] (jP (some (.int (iI (bI (lo2 = lo ∧ hi2 = hi))))) [(p, t, .inr (4, [.int (iI lo), .int (iI hi)])), (k, u, .inr (4, [.int (iI lo2), .int (iI hi2)]))]) := by
  refine l_body tbX2_equals tkX2_equals (by decide) (by intro v hv; simp only [List.mem_cons, List.not_mem_nil, or_false] at hv; rcases hv with rfl | rfl <;> rfl) (Nat.le_of_ble_eq_true rfl) (fun M0 z Q X hl hR hQ => ?_)
  subst hl
  refine l_eq (ls' := [some (.ref p), some (.ref k)]) (st' := []) rfl rfl ?_
  refine l_run X 1 (pc1 := 1) (ls1 := [_, _]) (st1 := [_]) rfl ?_
  refine l_instY X 1 rfl kX2_16_4 rfl ?_
  refine l_br X (pc1 := 39) (st1 := []) rfl (fun b9 => ?_) (fun b9 => ?_)
  · have c4 : (1 : Int) = (0 : Int) := cEq b9 (by omega) (by omega)
    exact absurd c4 (by omega)
  · have c4 : ¬ (1 : Int) = (0 : Int) := cNq b9 (by omega) (by omega)
    refine l_run X 1 (pc1 := 8) (ls1 := [_, _]) (st1 := [_]) rfl ?_
    refine l_cast X 1 rfl kX2_16_4 rfl ?_
    refine l_get X 1 rfl fX2_15 rfl rfl ?_
    refine l_run X 1 (pc1 := 15) (ls1 := [_, _]) (st1 := [_, _]) rfl ?_
    refine l_get X 0 rfl fX2_15 rfl rfl ?_
    refine l_br X (pc1 := 39) (st1 := []) rfl (fun b9 => ?_) (fun b9 => ?_)
    · have c18 : ¬ lo2 = lo := cNq b9 (by omega) (by omega)
      refine l_run X 1 (pc1 := 40) (ls1 := [_, _]) (st1 := [_]) rfl ?_
      exact l_zret X hQ rfl rfl rfl (Nat.le_refl _) (Nat.le_refl _) ⟨by rw [bI_0 (by omega)], rfl⟩
    · have c18 : lo2 = lo := cEq b9 (by omega) (by omega)
      refine l_run X 1 (pc1 := 22) (ls1 := [_, _]) (st1 := [_]) rfl ?_
      refine l_cast X 1 rfl kX2_16_4 rfl ?_
      refine l_get X 1 rfl fX2_24 rfl rfl ?_
      refine l_run X 1 (pc1 := 29) (ls1 := [_, _]) (st1 := [_, _]) rfl ?_
      refine l_get X 0 rfl fX2_24 rfl rfl ?_
      refine l_br X (pc1 := 39) (st1 := []) rfl (fun b9 => ?_) (fun b9 => ?_)
      · have c32 : ¬ hi2 = hi := cNq b9 (by omega) (by omega)
        refine l_run X 1 (pc1 := 40) (ls1 := [_, _]) (st1 := [_]) rfl ?_
        exact l_zret X hQ rfl rfl rfl (Nat.le_refl _) (Nat.le_refl _) ⟨by rw [bI_0 (by omega)], rfl⟩
      · have c32 : hi2 = hi := cEq b9 (by omega) (by omega)
        refine l_run X 2 (pc1 := 40) (ls1 := [_, _]) (st1 := [_]) rfl ?_
        exact l_zret X hQ rfl rfl rfl (Nat.le_refl _) (Nat.le_refl _) ⟨by rw [bI_1 (by omega)], rfl⟩
set_option maxHeartbeats 1000000 in
theorem jc_hm_hash (l : Launch) (EV : gEV) {p : Nat} {t : gTag} {lo hi : Int} (hlo : 0 ≤ lo ∧ lo ≤ 2) (hhi : 0 ≤ hi ∧ hi ≤ 2) : JC l yJ4_hash cJ4_hash 2 (some .int) 2 0 0 EV kT tF [.ref p] [(p, t, .inr (4, [.int (iI lo), .int (iI hi)]))] (jP (some (.int (iI ((3 * lo) + hi)))) [(p, t, .inr (4, [.int (iI lo), .int (iI hi)]))]) := by
  refine l_body tbJ4_hash tkJ4_hash (by decide) (by intro v hv; simp only [List.mem_cons, List.not_mem_nil, or_false] at hv; rcases hv with rfl <;> rfl) (Nat.le_of_ble_eq_true rfl) (fun M0 z Q X hl hR hQ => ?_)
  subst hl
  refine l_eq (ls' := [some (.ref p), none]) (st' := []) rfl rfl ?_
  refine l_run X 3 (pc1 := 9) (ls1 := [_, _]) (st1 := [_]) rfl ?_
  refine l_callU X gKt [0] [] 0 rfl mJ4_1_4 (jc_pair_hash z.2.1 EV) rfl (fun _ _ _ => trivial) rfl rfl (fun _ h => h.elim) (fun _ _ h => h) rfl rfl (Nat.le_of_ble_eq_true rfl) (gFit.of hR (Nat.le_of_ble_eq_true rfl) (Nat.le_of_ble_eq_true rfl) (Nat.le_of_ble_eq_true rfl)) (fun v9 L9 h9 => ?_)
  obtain ⟨rfl, rfl⟩ := h9
  refine l_eq (st' := [.int (iI ((3 * lo) + hi))]) rfl rfl ?_
  refine l_L (L' := [(p, t, .inr (4, [.int (iI lo), .int (iI hi)]))]) rfl ?_
  refine l_run X 4 (pc1 := 17) (ls1 := [_, _]) (st1 := [_, _, _]) rfl ?_
  refine l_run X 1 (pc1 := 18) (ls1 := [_, _]) (st1 := [_, _]) rfl ?_
  refine l_eq (ls' := [some (.ref p), some (.int (iI ((3 * lo) + hi)))]) (st' := [.int (iI 0), .int (iI ((3 * lo) + hi))]) rfl (by rw [ush0 (by omega)]) ?_
  refine l_run X 1 (pc1 := 19) (ls1 := [_, _]) (st1 := [_]) rfl ?_
  refine l_eq (ls' := [some (.ref p), some (.int (iI ((3 * lo) + hi)))]) (st' := [.int (iI ((3 * lo) + hi))]) rfl (by rw [xor0 (by omega)]) ?_
  exact l_iret X hQ rfl rfl (Nat.le_of_ble_eq_true rfl) (Nat.le_of_ble_eq_true rfl) ⟨rfl, rfl⟩
set_option maxHeartbeats 1000000 in
theorem jc_J3_init (l : Launch) (EV : gEV) {b : Nat} : JC l yJ3_init cJ3_init 1 none 1 0 0 EV kT tF [.ref b] [] (jP none []) := by
  refine l_body tbJ3_init tkJ3_init (by decide) (by intro v hv; simp only [List.mem_cons, List.not_mem_nil, or_false] at hv; rcases hv with rfl <;> rfl) (Nat.le_of_ble_eq_true rfl) (fun M0 z Q X hl hR hQ => ?_)
  subst hl
  refine l_eq (ls' := [some (.ref b)]) (st' := []) rfl rfl ?_
  refine l_run X 1 (pc1 := 1) (ls1 := [_]) (st1 := [_]) rfl ?_
  refine l_oinit X rfl q161 ⟨by rw [hR]; exact Nat.le_of_ble_eq_true rfl, by rw [hR]; exact Nat.le_of_ble_eq_true rfl⟩ (Nat.le_of_ble_eq_true rfl) ?_
  exact l_vret X hQ rfl rfl (Nat.le_of_ble_eq_true rfl) (Nat.le_of_ble_eq_true rfl) ⟨rfl, rfl⟩
set_option maxHeartbeats 1000000 in
theorem jc_J4_init (l : Launch) (EV : gEV) {a : Nat} {t : gTag} {e0 e1 e2 e3 e4 e5 e6 e7 e8 e9 e10 e11 : Value} : JC l yJ4_init cJ4_init 1 none 2 0 0 EV kT (tO t) [.ref a] [(a, t, .inr (3, [e0, e1, e2, e3, e4, e5, e6, e7, e8, e9, e10, e11]))] (jP none [(a, t, .inr (3, [e0, e1, e2, e3, e4, .float 1061158912, e6, e7, e8, e9, e10, e11]))]) := by
  refine l_body tbJ4_init tkJ4_init (by decide) (by intro v hv; simp only [List.mem_cons, List.not_mem_nil, or_false] at hv; rcases hv with rfl <;> rfl) (Nat.le_of_ble_eq_true rfl) (fun M0 z Q X hl hR hQ => ?_)
  subst hl
  refine l_eq (ls' := [some (.ref a)]) (st' := []) rfl rfl ?_
  refine l_run X 1 (pc1 := 1) (ls1 := [_]) (st1 := [_]) rfl ?_
  refine l_callI X gKt [] [0] rfl mJ4_43 (jc_J3_init z.2.1 EV (b := a)) (fun _ _ _ => trivial) rfl rfl (fun _ h => h.elim) (fun _ _ h => h) rfl rfl (Nat.le_of_ble_eq_true rfl) (gFit.of hR (Nat.le_of_ble_eq_true rfl) (Nat.le_of_ble_eq_true rfl) (Nat.le_of_ble_eq_true rfl)) (fun v9 L9 h9 => ?_)
  obtain ⟨rfl, rfl⟩ := h9
  refine l_eq (st' := []) rfl rfl ?_
  refine l_L (L' := [(a, t, .inr (3, [e0, e1, e2, e3, e4, e5, e6, e7, e8, e9, e10, e11]))]) rfl ?_
  refine l_run X 1 (pc1 := 5) (ls1 := [_]) (st1 := [_]) rfl ?_
  refine l_ldcF X rfl q162 ?_
  refine l_putF X gKt 0 rfl rfl fJ4_81 rfl (gDb_s rfl) (rfl) rfl rfl (Nat.le_of_ble_eq_true rfl) (L' := [(a, t, .inr (3, [e0, e1, e2, e3, e4, .float 1061158912, e6, e7, e8, e9, e10, e11]))]) rfl ?_
  exact l_vret X hQ rfl rfl (Nat.le_of_ble_eq_true rfl) (Nat.le_of_ble_eq_true rfl) ⟨rfl, rfl⟩
set_option maxHeartbeats 1000000 in
theorem jc_J5_init (l : Launch) (EV : gEV) {a : Nat} {t : gTag} {e0 e1 e2 e3 e4 e5 e6 e7 e8 e9 e10 e11 : Value} : JC l yJ5_init cJ5_init 1 none 3 0 0 EV kT (tO t) [.ref a] [(a, t, .inr (3, [e0, e1, e2, e3, e4, e5, e6, e7, e8, e9, e10, e11]))] (jP none [(a, t, .inr (3, [e0, e1, e2, e3, e4, .float 1061158912, e6, e7, e8, e9, .int (iI 0), .int (iI 0)]))]) := by
  refine l_body tbJ5_init tkJ5_init (by decide) (by intro v hv; simp only [List.mem_cons, List.not_mem_nil, or_false] at hv; rcases hv with rfl <;> rfl) (Nat.le_of_ble_eq_true rfl) (fun M0 z Q X hl hR hQ => ?_)
  subst hl
  refine l_eq (ls' := [some (.ref a)]) (st' := []) rfl rfl ?_
  refine l_run X 1 (pc1 := 1) (ls1 := [_]) (st1 := [_]) rfl ?_
  refine l_callI X gKt [0] [] rfl mJ5_87 (jc_J4_init z.2.1 EV) (fun _ _ _ => trivial) rfl rfl (fun _ h => h) (fun _ h => by cases h) rfl rfl (Nat.le_of_ble_eq_true rfl) (gFit.of hR (Nat.le_of_ble_eq_true rfl) (Nat.le_of_ble_eq_true rfl) (Nat.le_of_ble_eq_true rfl)) (fun v9 L9 h9 => ?_)
  obtain ⟨rfl, rfl⟩ := h9
  refine l_eq (st' := []) rfl rfl ?_
  refine l_L (L' := [(a, t, .inr (3, [e0, e1, e2, e3, e4, .float 1061158912, e6, e7, e8, e9, e10, e11]))]) rfl ?_
  refine l_run X 2 (pc1 := 6) (ls1 := [_]) (st1 := [_, _]) rfl ?_
  refine l_put X gKt 0 rfl fJ5_1 rfl (gDb_s rfl) (rfl) rfl rfl (Nat.le_of_ble_eq_true rfl) (L' := [(a, t, .inr (3, [e0, e1, e2, e3, e4, .float 1061158912, e6, e7, e8, e9, e10, .int (iI 0)]))]) rfl ?_
  refine l_run X 2 (pc1 := 11) (ls1 := [_]) (st1 := [_, _]) rfl ?_
  refine l_putF X gKt 0 rfl rfl fJ5_64 rfl (gDb_s rfl) (rfl) rfl rfl (Nat.le_of_ble_eq_true rfl) (L' := [(a, t, .inr (3, [e0, e1, e2, e3, e4, .float 1061158912, e6, e7, e8, e9, .int (iI 0), .int (iI 0)]))]) rfl ?_
  exact l_vret X hQ rfl rfl (Nat.le_of_ble_eq_true rfl) (Nat.le_of_ble_eq_true rfl) ⟨rfl, rfl⟩
set_option maxHeartbeats 1000000 in
theorem jc_resize0 (l : Launch) (EV : gEV) {a : Nat} {t : gTag} {e1 e2 e3 e5 e6 e7 e8 e9 e10 e11 : Value} {u : gTag} (htu : t ≠ u) : JC l yJ4_resize cJ4_resize 14 (some (.array (.object "java/util/HashMap$Node"))) 1 1 16 EV kT (tO2 t u) [.ref a] [(a, t, .inr (3, [.null, e1, e2, e3, .int (iI 0), e5, e6, e7, e8, e9, e10, e11]))] (fun v9 L9 => ∃ q : Nat, v9 = some (.ref q) ∧ L9 = [(a, t, .inr (3, [.ref q, e1, e2, e3, .int (iI 12), e5, e6, e7, e8, e9, e10, e11])), (q, u, .inl (EV.2.1 4, 16, .inr (.inr (.inr (.inr (fun _ => none))))))]) := by
  refine l_body tbJ4_resize tkJ4_resize (by decide) (by intro v hv; simp only [List.mem_cons, List.not_mem_nil, or_false] at hv; rcases hv with rfl <;> rfl) (Nat.le_of_ble_eq_true rfl) (fun M0 z Q X hl hR hQ => ?_)
  subst hl
  refine l_eq (ls' := [some (.ref a), none, none, none, none, none, none, none, none, none, none, none, none, none]) (st' := []) rfl rfl ?_
  refine l_run X 1 (pc1 := 1) (ls1 := [_, _, _, _, _, _, _, _, _, _, _, _, _, _]) (st1 := [_]) rfl ?_
  refine l_get X 0 rfl fJ4_105 rfl rfl ?_
  refine l_run X 7 (pc1 := 17) (ls1 := [_, _, _, _, _, _, _, _, _, _, _, _, _, _]) (st1 := [_]) rfl ?_
  refine l_get X 0 rfl fJ4_88 rfl rfl ?_
  refine l_run X 4 (pc1 := 25) (ls1 := [_, _, _, _, _, _, _, _, _, _, _, _, _, _]) (st1 := [_]) rfl ?_
  refine l_br X (pc1 := 67) (st1 := []) rfl (fun b9 => ?_) (fun b9 => ?_)
  · have c25 : (0 : Int) ≤ (0 : Int) := cLe b9 (by omega) (by omega)
    refine l_run X 1 (pc1 := 68) (ls1 := [_, _, _, _, _, _, _, _, _, _, _, _, _, _]) (st1 := [_]) rfl ?_
    refine l_br X (pc1 := 77) (st1 := []) rfl (fun b9 => ?_) (fun b9 => ?_)
    · have c68 : (0 : Int) ≤ (0 : Int) := cLe b9 (by omega) (by omega)
      refine l_run X 5 (pc1 := 87) (ls1 := [_, _, _, _, _, _, _, _, _, _, _, _, _, _]) (st1 := [_]) rfl ?_
      refine l_br X (pc1 := 125) (st1 := []) rfl (fun b9 => ?_) (fun b9 => ?_)
      · have c87 : ¬ (12 : Int) = (0 : Int) := cNq b9 (by omega) (by omega)
        refine l_run X 2 (pc1 := 128) (ls1 := [_, _, _, _, _, _, _, _, _, _, _, _, _, _]) (st1 := [_, _]) rfl ?_
        refine l_put X gKt 0 rfl fJ4_88 rfl (by first | exact gDb_s rfl | exact gDp2 htu) (Or.inl rfl) rfl rfl (Nat.le_of_ble_eq_true rfl) (L' := [(a, t, .inr (3, [.null, e1, e2, e3, .int (iI 12), e5, e6, e7, e8, e9, e10, e11]))]) rfl ?_
        refine l_run X 1 (pc1 := 133) (ls1 := [_, _, _, _, _, _, _, _, _, _, _, _, _, _]) (st1 := [_]) rfl ?_
        refine l_newq X gKt u 4 (N := 16) rfl q751 (by decide) rfl (by decide) (by decide) (by omega) (rc hR (by omega)) (rs hR (by omega)) (fun q1 => ?_)
        refine l_L (L' := [(a, t, .inr (3, [.null, e1, e2, e3, .int (iI 12), e5, e6, e7, e8, e9, e10, e11])), (q1, u, .inl (EV.2.1 4, 16, .inr (.inr (.inr (.inr (fun _ => none))))))]) rfl ?_
        refine l_run X 3 (pc1 := 141) (ls1 := [_, _, _, _, _, _, _, _, _, _, _, _, _, _]) (st1 := [_, _]) rfl ?_
        refine l_put X gKt 0 rfl fJ4_105 rfl (by first | exact gDb_s rfl | exact gDp2 htu) (Or.inl rfl) rfl rfl (Nat.le_of_ble_eq_true rfl) (L' := [(a, t, .inr (3, [.ref q1, e1, e2, e3, .int (iI 12), e5, e6, e7, e8, e9, e10, e11])), (q1, u, .inl (EV.2.1 4, 16, .inr (.inr (.inr (.inr (fun _ => none))))))]) rfl ?_
        refine l_run X 3 (pc1 := 355) (ls1 := [_, _, _, _, _, _, _, _, _, _, _, _, _, _]) (st1 := [_]) rfl ?_
        exact l_aret X hQ rfl rfl (Or.inr ⟨_, rfl⟩) (Or.inr ⟨_, rfl⟩) (Nat.le_of_ble_eq_true rfl) (Nat.le_of_ble_eq_true rfl) ⟨q1, rfl, rfl⟩
      · have c87 : (12 : Int) = (0 : Int) := cEq b9 (by omega) (by omega)
        exact absurd c87 (by omega)
    · have c68 : (0 : Int) < (0 : Int) := cNe b9 (by omega) (by omega)
      exact absurd c68 (by omega)
  · have c25 : (0 : Int) < (0 : Int) := cNe b9 (by omega) (by omega)
    exact absurd c25 (by omega)
set_option maxHeartbeats 1000000 in
theorem jc_J22_init (l : Launch) (EV : gEV) {q k x : Nat} {w : gTag} {h : Int} : JC l yJ22_init cJ22_init 5 none 1 0 0 EV kT (tO w) [.ref q, .int (iI h), .ref k, .ref x, .null] [(q, w, .inr (6, [.int (iI 0), .null, .null, .null, .null, .null]))] (jP none [(q, w, .inr (6, [.int (iI h), .ref k, .ref x, .null, .null, .null]))]) := by
  refine l_body tbJ22_init tkJ22_init (by decide) (by intro v hv; simp only [List.mem_cons, List.not_mem_nil, or_false] at hv; rcases hv with rfl | rfl | rfl | rfl | rfl <;> rfl) (Nat.le_of_ble_eq_true rfl) (fun M0 z Q X hl hR hQ => ?_)
  subst hl
  refine l_eq (ls' := [some (.ref q), some (.int (iI h)), some (.ref k), some (.ref x), some (.null)]) (st' := []) rfl rfl ?_
  refine l_run X 1 (pc1 := 1) (ls1 := [_, _, _, _, _]) (st1 := [_]) rfl ?_
  refine l_oinit X rfl q777 ⟨by rw [hR]; exact Nat.le_of_ble_eq_true rfl, by rw [hR]; exact Nat.le_of_ble_eq_true rfl⟩ (Nat.le_of_ble_eq_true rfl) ?_
  refine l_run X 2 (pc1 := 6) (ls1 := [_, _, _, _, _]) (st1 := [_, _]) rfl ?_
  refine l_putF X gKt 0 rfl rfl fJ22_7 rfl (gDb_s rfl) (rfl) rfl rfl (Nat.le_of_ble_eq_true rfl) (L' := [(q, w, .inr (6, [.int (iI h), .null, .null, .null, .null, .null]))]) rfl ?_
  refine l_run X 2 (pc1 := 11) (ls1 := [_, _, _, _, _]) (st1 := [_, _]) rfl ?_
  refine l_putF X gKt 0 rfl rfl fJ22_13 rfl (gDb_s rfl) (rfl) rfl rfl (Nat.le_of_ble_eq_true rfl) (L' := [(q, w, .inr (6, [.int (iI h), .ref k, .null, .null, .null, .null]))]) rfl ?_
  refine l_run X 2 (pc1 := 16) (ls1 := [_, _, _, _, _]) (st1 := [_, _]) rfl ?_
  refine l_put X gKt 0 rfl fJ22_17 rfl (gDb_s rfl) (rfl) rfl rfl (Nat.le_of_ble_eq_true rfl) (L' := [(q, w, .inr (6, [.int (iI h), .ref k, .ref x, .null, .null, .null]))]) rfl ?_
  refine l_run X 2 (pc1 := 22) (ls1 := [_, _, _, _, _]) (st1 := [_, _]) rfl ?_
  refine l_put X gKt 0 rfl fJ22_20 rfl (gDb_s rfl) (rfl) rfl rfl (Nat.le_of_ble_eq_true rfl) (L' := [(q, w, .inr (6, [.int (iI h), .ref k, .ref x, .null, .null, .null]))]) rfl ?_
  exact l_vret X hQ rfl rfl (Nat.le_of_ble_eq_true rfl) (Nat.le_of_ble_eq_true rfl) ⟨rfl, rfl⟩
set_option maxHeartbeats 1000000 in
theorem jc_J23_init (l : Launch) (EV : gEV) {q k x : Nat} {w : gTag} {h : Int} : JC l yJ23_init cJ23_init 5 none 2 0 0 EV kT (tO w) [.ref q, .int (iI h), .ref k, .ref x, .null] [(q, w, .inr (6, [.int (iI 0), .null, .null, .null, .null, .null]))] (jP none [(q, w, .inr (6, [.int (iI h), .ref k, .ref x, .null, .null, .null]))]) := by
  refine l_body tbJ23_init tkJ23_init (by decide) (by intro v hv; simp only [List.mem_cons, List.not_mem_nil, or_false] at hv; rcases hv with rfl | rfl | rfl | rfl | rfl <;> rfl) (Nat.le_of_ble_eq_true rfl) (fun M0 z Q X hl hR hQ => ?_)
  subst hl
  refine l_eq (ls' := [some (.ref q), some (.int (iI h)), some (.ref k), some (.ref x), some (.null)]) (st' := []) rfl rfl ?_
  refine l_run X 5 (pc1 := 6) (ls1 := [_, _, _, _, _]) (st1 := [_, _, _, _, _]) rfl ?_
  refine l_callI X gKt [0] [] rfl mJ23_1 (jc_J22_init z.2.1 EV) (fun _ _ _ => trivial) rfl rfl (fun _ h => h) (fun _ h => by cases h) rfl rfl (Nat.le_of_ble_eq_true rfl) (gFit.of hR (Nat.le_of_ble_eq_true rfl) (Nat.le_of_ble_eq_true rfl) (Nat.le_of_ble_eq_true rfl)) (fun v9 L9 h9 => ?_)
  obtain ⟨rfl, rfl⟩ := h9
  refine l_eq (st' := []) rfl rfl ?_
  refine l_L (L' := [(q, w, .inr (6, [.int (iI h), .ref k, .ref x, .null, .null, .null]))]) rfl ?_
  exact l_vret X hQ rfl rfl (Nat.le_of_ble_eq_true rfl) (Nat.le_of_ble_eq_true rfl) ⟨rfl, rfl⟩
set_option maxHeartbeats 1000000 in
theorem jc_link0 (l : Launch) (EV : gEV) {a : Nat} {t : gTag} {e0 e1 e2 e3 e4 e5 e6 e7 e10 : Value} {q : Nat} : JC l yJ5_linkNodeAtEnd cJ5_linkNodeAtEnd 3 none 1 0 0 EV kT (tO t) [.ref a, .ref q] [(a, t, .inr (3, [e0, e1, e2, e3, e4, e5, e6, e7, .null, .null, e10, .int (iI 0)]))] (jP none [(a, t, .inr (3, [e0, e1, e2, e3, e4, e5, e6, e7, .ref q, .ref q, e10, .int (iI 0)]))]) := by
  refine l_body tbJ5_linkNodeAtEnd tkJ5_linkNodeAtEnd (by decide) (by intro v hv; simp only [List.mem_cons, List.not_mem_nil, or_false] at hv; rcases hv with rfl | rfl <;> rfl) (Nat.le_of_ble_eq_true rfl) (fun M0 z Q X hl hR hQ => ?_)
  subst hl
  refine l_eq (ls' := [some (.ref a), some (.ref q), none]) (st' := []) rfl rfl ?_
  refine l_run X 1 (pc1 := 1) (ls1 := [_, _, _]) (st1 := [_]) rfl ?_
  refine l_get X 0 rfl fJ5_1 rfl rfl ?_
  refine l_run X 1 (pc1 := 5) (ls1 := [_, _, _]) (st1 := [_, _]) rfl ?_
  refine l_br X (pc1 := 43) (st1 := []) rfl (fun b9 => ?_) (fun b9 => ?_)
  · have c5 : ¬ (0 : Int) = (1 : Int) := cNq b9 (by omega) (by omega)
    refine l_run X 1 (pc1 := 44) (ls1 := [_, _, _]) (st1 := [_]) rfl ?_
    refine l_get X 0 rfl fJ5_11 rfl rfl ?_
    refine l_run X 3 (pc1 := 50) (ls1 := [_, _, _]) (st1 := [_, _]) rfl ?_
    refine l_put X gKt 0 rfl fJ5_11 rfl (gDb_s rfl) (rfl) rfl rfl (Nat.le_of_ble_eq_true rfl) (L' := [(a, t, .inr (3, [e0, e1, e2, e3, e4, e5, e6, e7, .null, .ref q, e10, .int (iI 0)]))]) rfl ?_
    refine l_run X 4 (pc1 := 59) (ls1 := [_, _, _]) (st1 := [_, _]) rfl ?_
    refine l_put X gKt 0 rfl fJ5_7 rfl (gDb_s rfl) (rfl) rfl rfl (Nat.le_of_ble_eq_true rfl) (L' := [(a, t, .inr (3, [e0, e1, e2, e3, e4, e5, e6, e7, .ref q, .ref q, e10, .int (iI 0)]))]) rfl ?_
    refine l_run X 1 (pc1 := 75) (ls1 := [_, _, _]) (st1 := []) rfl ?_
    exact l_vret X hQ rfl rfl (Nat.le_of_ble_eq_true rfl) (Nat.le_of_ble_eq_true rfl) ⟨rfl, rfl⟩
  · have c5 : (0 : Int) = (1 : Int) := cEq b9 (by omega) (by omega)
    exact absurd c5 (by omega)
set_option maxHeartbeats 1000000 in
theorem jc_linkN (l : Launch) (EV : gEV) {a : Nat} {t : gTag} {e0 e1 e2 e3 e4 e5 e6 e7 e8 e10 : Value} {q b : Nat} {w v : gTag} (htw : t ≠ w) (htv : t ≠ v) (hwv : w ≠ v) {w0 w1 w2 w3 w4 w5 y0 y1 y2 y3 y4 y5 : Value} : JC l yJ5_linkNodeAtEnd cJ5_linkNodeAtEnd 3 none 1 0 0 EV kT (tO3 t w v) [.ref a, .ref q] [(a, t, .inr (3, [e0, e1, e2, e3, e4, e5, e6, e7, e8, .ref b, e10, .int (iI 0)])), (q, w, .inr (6, [w0, w1, w2, w3, w4, w5])), (b, v, .inr (6, [y0, y1, y2, y3, y4, y5]))] (jP none [(a, t, .inr (3, [e0, e1, e2, e3, e4, e5, e6, e7, e8, .ref q, e10, .int (iI 0)])), (q, w, .inr (6, [w0, w1, w2, w3, .ref b, w5])), (b, v, .inr (6, [y0, y1, y2, y3, y4, .ref q]))]) := by
  refine l_body tbJ5_linkNodeAtEnd tkJ5_linkNodeAtEnd (by decide) (by intro v hv; simp only [List.mem_cons, List.not_mem_nil, or_false] at hv; rcases hv with rfl | rfl <;> rfl) (Nat.le_of_ble_eq_true rfl) (fun M0 z Q X hl hR hQ => ?_)
  subst hl
  refine l_eq (ls' := [some (.ref a), some (.ref q), none]) (st' := []) rfl rfl ?_
  refine l_run X 1 (pc1 := 1) (ls1 := [_, _, _]) (st1 := [_]) rfl ?_
  refine l_get X 0 rfl fJ5_1 rfl rfl ?_
  refine l_run X 1 (pc1 := 5) (ls1 := [_, _, _]) (st1 := [_, _]) rfl ?_
  refine l_br X (pc1 := 43) (st1 := []) rfl (fun b9 => ?_) (fun b9 => ?_)
  · have c5 : ¬ (0 : Int) = (1 : Int) := cNq b9 (by omega) (by omega)
    refine l_run X 1 (pc1 := 44) (ls1 := [_, _, _]) (st1 := [_]) rfl ?_
    refine l_get X 0 rfl fJ5_11 rfl rfl ?_
    refine l_run X 3 (pc1 := 50) (ls1 := [_, _, _]) (st1 := [_, _]) rfl ?_
    refine l_put X gKt 0 rfl fJ5_11 rfl (gDp3 htw htv hwv) (Or.inl rfl) rfl rfl (Nat.le_of_ble_eq_true rfl) (L' := [(a, t, .inr (3, [e0, e1, e2, e3, e4, e5, e6, e7, e8, .ref q, e10, .int (iI 0)])), (q, w, .inr (6, [w0, w1, w2, w3, w4, w5])), (b, v, .inr (6, [y0, y1, y2, y3, y4, y5]))]) rfl ?_
    refine l_run X 4 (pc1 := 67) (ls1 := [_, _, _]) (st1 := [_, _]) rfl ?_
    refine l_put X gKt 1 rfl fJ5_19 rfl (gDp3 htw htv hwv) (Or.inr (Or.inl rfl)) rfl rfl (Nat.le_of_ble_eq_true rfl) (L' := [(a, t, .inr (3, [e0, e1, e2, e3, e4, e5, e6, e7, e8, .ref q, e10, .int (iI 0)])), (q, w, .inr (6, [w0, w1, w2, w3, .ref b, w5])), (b, v, .inr (6, [y0, y1, y2, y3, y4, y5]))]) rfl ?_
    refine l_run X 2 (pc1 := 72) (ls1 := [_, _, _]) (st1 := [_, _]) rfl ?_
    refine l_put X gKt 2 rfl fJ5_14 rfl (gDp3 htw htv hwv) (Or.inr (Or.inr rfl)) rfl rfl (Nat.le_of_ble_eq_true rfl) (L' := [(a, t, .inr (3, [e0, e1, e2, e3, e4, e5, e6, e7, e8, .ref q, e10, .int (iI 0)])), (q, w, .inr (6, [w0, w1, w2, w3, .ref b, w5])), (b, v, .inr (6, [y0, y1, y2, y3, y4, .ref q]))]) rfl ?_
    exact l_vret X hQ rfl rfl (Nat.le_of_ble_eq_true rfl) (Nat.le_of_ble_eq_true rfl) ⟨rfl, rfl⟩
  · have c5 : (0 : Int) = (1 : Int) := cEq b9 (by omega) (by omega)
    exact absurd c5 (by omega)
set_option maxHeartbeats 1000000 in
theorem jc_newNode0 (l : Launch) (EV : gEV) {a : Nat} {t : gTag} {e0 e1 e2 e3 e4 e5 e6 e7 e10 : Value} {k x : Nat} {w : gTag} (htw : t ≠ w) {h : Int} : JC l yJ5_newNode cJ5_newNode 6 (some (.object "java/util/HashMap$Node")) 3 1 6 EV kT (tO2 t w) [.ref a, .int (iI h), .ref k, .ref x, .null] [(a, t, .inr (3, [e0, e1, e2, e3, e4, e5, e6, e7, .null, .null, e10, .int (iI 0)]))] (fun v9 L9 => ∃ q : Nat, v9 = some (.ref q) ∧ L9 = [(a, t, .inr (3, [e0, e1, e2, e3, e4, e5, e6, e7, .ref q, .ref q, e10, .int (iI 0)])), (q, w, .inr (6, [.int (iI h), .ref k, .ref x, .null, .null, .null]))]) := by
  refine l_body tbJ5_newNode tkJ5_newNode (by decide) (by intro v hv; simp only [List.mem_cons, List.not_mem_nil, or_false] at hv; rcases hv with rfl | rfl | rfl | rfl | rfl <;> rfl) (Nat.le_of_ble_eq_true rfl) (fun M0 z Q X hl hR hQ => ?_)
  subst hl
  refine l_eq (ls' := [some (.ref a), some (.int (iI h)), some (.ref k), some (.ref x), some (.null), none]) (st' := []) rfl rfl ?_
  refine l_new X gKt w rfl nJ5_15 (rc hR (Nat.le_of_ble_eq_true rfl)) (rs hR (Nat.le_of_ble_eq_true rfl)) (fun q1 => ?_)
  refine l_L (L' := [(a, t, .inr (3, [e0, e1, e2, e3, e4, e5, e6, e7, .null, .null, e10, .int (iI 0)])), (q1, w, .inr (6, [.int (iI 0), .null, .null, .null, .null, .null]))]) rfl ?_
  refine l_run X 5 (pc1 := 9) (ls1 := [_, _, _, _, _, _]) (st1 := [_, _, _, _, _, _]) rfl ?_
  refine l_callI X gKt [1] [0] rfl mJ5_28 (jc_J23_init z.2.1 EV) (fun _ _ _ => trivial) rfl rfl (fun _ h => Or.inr h) (fun y hy => by simp at hy; subst hy; exact htw) rfl rfl (Nat.le_of_ble_eq_true rfl) (gFit.of hR (Nat.le_of_ble_eq_true rfl) (Nat.le_of_ble_eq_true rfl) (Nat.le_of_ble_eq_true rfl)) (fun v9 L9 h9 => ?_)
  obtain ⟨rfl, rfl⟩ := h9
  refine l_eq (st' := [.ref q1]) rfl rfl ?_
  refine l_L (L' := [(q1, w, .inr (6, [.int (iI h), .ref k, .ref x, .null, .null, .null])), (a, t, .inr (3, [e0, e1, e2, e3, e4, e5, e6, e7, .null, .null, e10, .int (iI 0)]))]) rfl ?_
  refine l_run X 3 (pc1 := 17) (ls1 := [_, _, _, _, _, _]) (st1 := [_, _]) rfl ?_
  refine l_callV X gKt [1] [0] 1 rfl mJ5_32 (jc_link0 z.2.1 EV) rfl (fun _ _ _ => trivial) rfl rfl (fun _ h => Or.inl h) (fun y hy => by simp at hy; subst hy; exact htw.symm) rfl rfl (Nat.le_of_ble_eq_true rfl) (gFit.of hR (Nat.le_of_ble_eq_true rfl) (Nat.le_of_ble_eq_true rfl) (Nat.le_of_ble_eq_true rfl)) (fun v9 L9 h9 => ?_)
  obtain ⟨rfl, rfl⟩ := h9
  refine l_eq (st' := []) rfl rfl ?_
  refine l_L (L' := [(a, t, .inr (3, [e0, e1, e2, e3, e4, e5, e6, e7, .ref q1, .ref q1, e10, .int (iI 0)])), (q1, w, .inr (6, [.int (iI h), .ref k, .ref x, .null, .null, .null]))]) rfl ?_
  refine l_run X 1 (pc1 := 22) (ls1 := [_, _, _, _, _, _]) (st1 := [_]) rfl ?_
  exact l_aret X hQ rfl rfl (Or.inl ⟨_, rfl⟩) (Or.inr ⟨_, rfl⟩) (Nat.le_of_ble_eq_true rfl) (Nat.le_of_ble_eq_true rfl) ⟨q1, rfl, rfl⟩
set_option maxHeartbeats 1000000 in
theorem jc_newNodeN (l : Launch) (EV : gEV) {a : Nat} {t : gTag} {e0 e1 e2 e3 e4 e5 e6 e7 e8 e10 : Value} {k x b : Nat} {w v : gTag} (htw : t ≠ w) (htv : t ≠ v) (hwv : w ≠ v) {h : Int} {y0 y1 y2 y3 y4 y5 : Value} : JC l yJ5_newNode cJ5_newNode 6 (some (.object "java/util/HashMap$Node")) 3 1 6 EV kT (tO3 t w v) [.ref a, .int (iI h), .ref k, .ref x, .null] [(a, t, .inr (3, [e0, e1, e2, e3, e4, e5, e6, e7, e8, .ref b, e10, .int (iI 0)])), (b, v, .inr (6, [y0, y1, y2, y3, y4, y5]))] (fun v9 L9 => ∃ q : Nat, v9 = some (.ref q) ∧ L9 = [(a, t, .inr (3, [e0, e1, e2, e3, e4, e5, e6, e7, e8, .ref q, e10, .int (iI 0)])), (q, w, .inr (6, [.int (iI h), .ref k, .ref x, .null, .ref b, .null])), (b, v, .inr (6, [y0, y1, y2, y3, y4, .ref q]))]) := by
  refine l_body tbJ5_newNode tkJ5_newNode (by decide) (by intro v hv; simp only [List.mem_cons, List.not_mem_nil, or_false] at hv; rcases hv with rfl | rfl | rfl | rfl | rfl <;> rfl) (Nat.le_of_ble_eq_true rfl) (fun M0 z Q X hl hR hQ => ?_)
  subst hl
  refine l_eq (ls' := [some (.ref a), some (.int (iI h)), some (.ref k), some (.ref x), some (.null), none]) (st' := []) rfl rfl ?_
  refine l_new X gKt w rfl nJ5_15 (rc hR (Nat.le_of_ble_eq_true rfl)) (rs hR (Nat.le_of_ble_eq_true rfl)) (fun q1 => ?_)
  refine l_L (L' := [(a, t, .inr (3, [e0, e1, e2, e3, e4, e5, e6, e7, e8, .ref b, e10, .int (iI 0)])), (b, v, .inr (6, [y0, y1, y2, y3, y4, y5])), (q1, w, .inr (6, [.int (iI 0), .null, .null, .null, .null, .null]))]) rfl ?_
  refine l_run X 5 (pc1 := 9) (ls1 := [_, _, _, _, _, _]) (st1 := [_, _, _, _, _, _]) rfl ?_
  refine l_callI X gKt [2] [0, 1] rfl mJ5_28 (jc_J23_init z.2.1 EV) (fun _ _ _ => trivial) rfl rfl (fun _ h => Or.inr (Or.inl h)) (fun y hy => by simp at hy; rcases hy with rfl | rfl <;> first | exact htw | exact hwv.symm) rfl rfl (Nat.le_of_ble_eq_true rfl) (gFit.of hR (Nat.le_of_ble_eq_true rfl) (Nat.le_of_ble_eq_true rfl) (Nat.le_of_ble_eq_true rfl)) (fun v9 L9 h9 => ?_)
  obtain ⟨rfl, rfl⟩ := h9
  refine l_eq (st' := [.ref q1]) rfl rfl ?_
  refine l_L (L' := [(q1, w, .inr (6, [.int (iI h), .ref k, .ref x, .null, .null, .null])), (a, t, .inr (3, [e0, e1, e2, e3, e4, e5, e6, e7, e8, .ref b, e10, .int (iI 0)])), (b, v, .inr (6, [y0, y1, y2, y3, y4, y5]))]) rfl ?_
  refine l_run X 3 (pc1 := 17) (ls1 := [_, _, _, _, _, _]) (st1 := [_, _]) rfl ?_
  refine l_callV X gKt [1, 0, 2] [] 1 rfl mJ5_32 (jc_linkN z.2.1 EV htw htv hwv) rfl (fun _ _ _ => trivial) rfl rfl (fun _ h => h) (fun _ h => by cases h) rfl rfl (Nat.le_of_ble_eq_true rfl) (gFit.of hR (Nat.le_of_ble_eq_true rfl) (Nat.le_of_ble_eq_true rfl) (Nat.le_of_ble_eq_true rfl)) (fun v9 L9 h9 => ?_)
  obtain ⟨rfl, rfl⟩ := h9
  refine l_eq (st' := []) rfl rfl ?_
  refine l_L (L' := [(a, t, .inr (3, [e0, e1, e2, e3, e4, e5, e6, e7, e8, .ref q1, e10, .int (iI 0)])), (q1, w, .inr (6, [.int (iI h), .ref k, .ref x, .null, .ref b, .null])), (b, v, .inr (6, [y0, y1, y2, y3, y4, .ref q1]))]) rfl ?_
  refine l_run X 1 (pc1 := 22) (ls1 := [_, _, _, _, _, _]) (st1 := [_]) rfl ?_
  exact l_aret X hQ rfl rfl (Or.inl ⟨_, rfl⟩) (Or.inr ⟨_, rfl⟩) (Nat.le_of_ble_eq_true rfl) (Nat.le_of_ble_eq_true rfl) ⟨q1, rfl, rfl⟩
set_option maxHeartbeats 1000000 in
theorem jc_rmEld (l : Launch) (EV : gEV) {a y : Nat} : JC l yJ5_removeEldestEntry cJ5_removeEldestEntry 2 (some .boolean) 1 0 0 EV kT tF [.ref a, .ref y] [] (jP (some (.int (iI 0))) []) := by
  refine l_body tbJ5_removeEldestEntry tkJ5_removeEldestEntry (by decide) (by intro v hv; simp only [List.mem_cons, List.not_mem_nil, or_false] at hv; rcases hv with rfl | rfl <;> rfl) (Nat.le_of_ble_eq_true rfl) (fun M0 z Q X hl hR hQ => ?_)
  subst hl
  refine l_eq (ls' := [some (.ref a), some (.ref y)]) (st' := []) rfl rfl ?_
  refine l_run X 1 (pc1 := 1) (ls1 := [_, _]) (st1 := [_]) rfl ?_
  exact l_zret X hQ rfl rfl rfl (Nat.le_refl _) (Nat.le_refl _) ⟨rfl, rfl⟩
set_option maxHeartbeats 1000000 in
theorem jc_aftIns (l : Launch) (EV : gEV) {a : Nat} {t : gTag} {e0 e1 e2 e3 e4 e5 e6 e7 e9 e10 e11 : Value} {y : Nat} : JC l yJ5_afterNodeInsertion cJ5_afterNodeInsertion 4 none 2 0 0 EV kT tF [.ref a, .int (iI 1)] [(a, t, .inr (3, [e0, e1, e2, e3, e4, e5, e6, e7, .ref y, e9, e10, e11]))] (jP none [(a, t, .inr (3, [e0, e1, e2, e3, e4, e5, e6, e7, .ref y, e9, e10, e11]))]) := by
  refine l_body tbJ5_afterNodeInsertion tkJ5_afterNodeInsertion (by decide) (by intro v hv; simp only [List.mem_cons, List.not_mem_nil, or_false] at hv; rcases hv with rfl | rfl <;> rfl) (Nat.le_of_ble_eq_true rfl) (fun M0 z Q X hl hR hQ => ?_)
  subst hl
  refine l_eq (ls' := [some (.ref a), some (.int (iI 1)), none, none]) (st' := []) rfl rfl ?_
  refine l_run X 1 (pc1 := 1) (ls1 := [_, _, _, _]) (st1 := [_]) rfl ?_
  refine l_br X (pc1 := 39) (st1 := []) rfl (fun b9 => ?_) (fun b9 => ?_)
  · have c1 : (1 : Int) = (0 : Int) := cEq b9 (by omega) (by omega)
    exact absurd c1 (by omega)
  · have c1 : ¬ (1 : Int) = (0 : Int) := cNq b9 (by omega) (by omega)
    refine l_run X 1 (pc1 := 5) (ls1 := [_, _, _, _]) (st1 := [_]) rfl ?_
    refine l_get X 0 rfl fJ5_7 rfl rfl ?_
    refine l_run X 5 (pc1 := 15) (ls1 := [_, _, _, _]) (st1 := [_, _]) rfl ?_
    refine l_callV X gKt [] [0] 0 rfl mJ5_53 (jc_rmEld z.2.1 EV) rfl (fun _ _ _ => trivial) rfl rfl (fun _ h => h.elim) (fun _ _ h => h) rfl rfl (Nat.le_of_ble_eq_true rfl) (gFit.of hR (Nat.le_of_ble_eq_true rfl) (Nat.le_of_ble_eq_true rfl) (Nat.le_of_ble_eq_true rfl)) (fun v9 L9 h9 => ?_)
    obtain ⟨rfl, rfl⟩ := h9
    refine l_eq (st' := [.int (iI 0)]) rfl rfl ?_
    refine l_L (L' := [(a, t, .inr (3, [e0, e1, e2, e3, e4, e5, e6, e7, .ref y, e9, e10, e11]))]) rfl ?_
    refine l_br X (pc1 := 39) (st1 := []) rfl (fun b9 => ?_) (fun b9 => ?_)
    · have c18 : (0 : Int) = (0 : Int) := cEq b9 (by omega) (by omega)
      exact l_vret X hQ rfl rfl (Nat.le_of_ble_eq_true rfl) (Nat.le_of_ble_eq_true rfl) ⟨rfl, rfl⟩
    · have c18 : ¬ (0 : Int) = (0 : Int) := cNq b9 (by omega) (by omega)
      exact absurd c18 (by omega)
set_option maxHeartbeats 1000000 in
theorem jc_putVal0 (l : Launch) (EV : gEV) {a : Nat} {t : gTag} {e1 e5 e6 e7 e10 : Value} {k x : Nat} {u w : gTag} (htu : t ≠ u) (htw : t ≠ w) (huw : u ≠ w) {h : Int} (hh : 0 ≤ h ∧ h < 16) : JC l yJ4_putVal cJ4_putVal 13 (some (.object "java/lang/Object")) 4 2 22 EV kT (tO3 t u w) [.ref a, .int (iI h), .ref k, .ref x, .int (iI 0), .int (iI 1)] [(a, t, .inr (3, [.null, e1, .int (iI 0), .int (iI 0), .int (iI 0), e5, e6, e7, .null, .null, e10, .int (iI 0)]))] (fun v9 L9 => ∃ q8 q9 : Nat, v9 = some .null ∧ L9 = [(a, t, .inr (3, [.ref q8, e1, .int (iI 1), .int (iI 1), .int (iI 12), e5, e6, e7, .ref q9, .ref q9, e10, .int (iI 0)])), (q8, u, .inl (EV.2.1 4, 16, .inr (.inr (.inr (.inr (va_up (fun _ => none) (h.toNat) (some q9))))))), (q9, w, .inr (6, [.int (iI h), .ref k, .ref x, .null, .null, .null]))]) := by
  refine l_body tbJ4_putVal tkJ4_putVal (by decide) (by intro v hv; simp only [List.mem_cons, List.not_mem_nil, or_false] at hv; rcases hv with rfl | rfl | rfl | rfl | rfl | rfl <;> rfl) (Nat.le_of_ble_eq_true rfl) (fun M0 z Q X hl hR hQ => ?_)
  subst hl
  refine l_eq (ls' := [some (.ref a), some (.int (iI h)), some (.ref k), some (.ref x), some (.int (iI 0)), some (.int (iI 1)), none, none, none, none, none, none, none]) (st' := []) rfl rfl ?_
  refine l_run X 1 (pc1 := 1) (ls1 := [_, _, _, _, _, _, _, _, _, _, _, _, _]) (st1 := [_]) rfl ?_
  refine l_get X 0 rfl fJ4_105 rfl rfl ?_
  refine l_run X 4 (pc1 := 20) (ls1 := [_, _, _, _, _, _, _, _, _, _, _, _, _]) (st1 := [_]) rfl ?_
  refine l_callU X gKt [0] [] 0 rfl mJ4_117_3 (jc_resize0 z.2.1 EV htu) rfl (fun _ _ _ => trivial) rfl rfl (fun _ h => h.elim Or.inl (fun h => Or.inr (Or.inl h))) (fun _ h => by cases h) rfl rfl (Nat.le_of_ble_eq_true rfl) (gFit.of hR (Nat.le_of_ble_eq_true rfl) (Nat.le_of_ble_eq_true rfl) (Nat.le_of_ble_eq_true rfl)) (fun v9 L9 h9 => ?_)
  obtain ⟨q8, rfl, rfl⟩ := h9
  refine l_eq (st' := [.ref q8]) rfl rfl ?_
  refine l_L (L' := [(a, t, .inr (3, [.ref q8, e1, .int (iI 0), .int (iI 0), .int (iI 12), e5, e6, e7, .null, .null, e10, .int (iI 0)])), (q8, u, .inl (EV.2.1 4, 16, .inr (.inr (.inr (.inr (fun _ => none))))))]) rfl ?_
  refine l_run X 2 (pc1 := 26) (ls1 := [_, _, _, _, _, _, _, _, _, _, _, _, _]) (st1 := [_]) rfl ?_
  refine l_alen X 1 4 rfl rfl rfl (v := iI 16) rfl ?_
  refine l_run X 6 (pc1 := 36) (ls1 := [_, _, _, _, _, _, _, _, _, _, _, _, _]) (st1 := [_, _, _]) rfl ?_
  refine l_eq (ls' := [some (.ref a), some (.int (iI h)), some (.ref k), some (.ref x), some (.int (iI 0)), some (.int (iI 1)), some (.ref q8), none, some (.int (iI 16)), none, none, none, none]) (st' := [.int (iI h), .int (iI (16 - 1)), .ref q8]) (by simp only [iI_add, iI_sub, iI_mul, iI_neg]) (by simp only [iI_add, iI_sub, iI_mul, iI_neg]) ?_
  refine l_run X 1 (pc1 := 37) (ls1 := [_, _, _, _, _, _, _, _, _, _, _, _, _]) (st1 := [_, _]) rfl ?_
  refine l_eq (ls' := [some (.ref a), some (.int (iI h)), some (.ref k), some (.ref x), some (.int (iI 0)), some (.int (iI 1)), some (.ref q8), none, some (.int (iI 16)), none, none, none, none]) (st' := [.int (iI h), .ref q8]) rfl (by rw [and15 (by omega)]) ?_
  refine l_run X 2 (pc1 := 40) (ls1 := [_, _, _, _, _, _, _, _, _, _, _, _, _]) (st1 := [_, _]) rfl ?_
  refine l_aald X 1 4 (v := .null) rfl rfl rfl (gIx_i (by omega) (by omega)) rfl ?_
  refine l_run X 10 (pc1 := 56) (ls1 := [_, _, _, _, _, _, _, _, _, _, _, _, _]) (st1 := [_, _, _, _, _, _, _]) rfl ?_
  refine l_callU X gKt [0] [1] 0 rfl mJ4_186_3 (jc_newNode0 z.2.1 EV htw) rfl (fun _ _ _ => trivial) rfl rfl (fun _ h => h.elim Or.inl (fun h => Or.inr (Or.inr h))) (fun y hy => by simp at hy; subst hy; exact fun e => e.elim (fun e => htu e.symm) huw) rfl rfl (Nat.le_of_ble_eq_true rfl) (gFit.of hR (Nat.le_of_ble_eq_true rfl) (Nat.le_of_ble_eq_true rfl) (Nat.le_of_ble_eq_true rfl)) (fun v9 L9 h9 => ?_)
  obtain ⟨q9, rfl, rfl⟩ := h9
  refine l_eq (st' := [.ref q9, .int (iI h), .ref q8]) rfl rfl ?_
  refine l_L (L' := [(a, t, .inr (3, [.ref q8, e1, .int (iI 0), .int (iI 0), .int (iI 12), e5, e6, e7, .ref q9, .ref q9, e10, .int (iI 0)])), (q9, w, .inr (6, [.int (iI h), .ref k, .ref x, .null, .null, .null])), (q8, u, .inl (EV.2.1 4, 16, .inr (.inr (.inr (.inr (fun _ => none))))))]) rfl ?_
  refine l_aastM X gKt 2 1 rfl rfl rfl q2732 (by first | exact gDb_s rfl | exact gDp3 htw htu huw.symm | exact gDp3 htu htw huw | exact gDp3 htu.symm huw htw | exact gDp3 huw.symm htw.symm htu | exact gDp3 htw.symm huw.symm htu) (Or.inr (Or.inl rfl)) (gIx_i (by omega) (by omega)) (L' := [(a, t, .inr (3, [.ref q8, e1, .int (iI 0), .int (iI 0), .int (iI 12), e5, e6, e7, .ref q9, .ref q9, e10, .int (iI 0)])), (q9, w, .inr (6, [.int (iI h), .ref k, .ref x, .null, .null, .null])), (q8, u, .inl (EV.2.1 4, 16, .inr (.inr (.inr (.inr (va_up (fun _ => none) (h.toNat) (some q9)))))))]) rfl ?_
  refine l_run X 3 (pc1 := 261) (ls1 := [_, _, _, _, _, _, _, _, _, _, _, _, _]) (st1 := [_, _]) rfl ?_
  refine l_get X 0 rfl fJ4_202 rfl rfl ?_
  refine l_run X 2 (pc1 := 266) (ls1 := [_, _, _, _, _, _, _, _, _, _, _, _, _]) (st1 := [_, _]) rfl ?_
  refine l_eq (ls' := [some (.ref a), some (.int (iI h)), some (.ref k), some (.ref x), some (.int (iI 0)), some (.int (iI 1)), some (.ref q8), some (.null), some (.int (iI 16)), some (.int (iI h)), none, none, none]) (st' := [.int (iI (0 + 1)), .ref a]) (by simp only [iI_add, iI_sub, iI_mul, iI_neg]) (by simp only [iI_add, iI_sub, iI_mul, iI_neg]) ?_
  refine l_put X gKt 0 rfl fJ4_202 rfl (by first | exact gDb_s rfl | exact gDp3 htw htu huw.symm | exact gDp3 htu htw huw | exact gDp3 htu.symm huw htw | exact gDp3 huw.symm htw.symm htu | exact gDp3 htw.symm huw.symm htu) (Or.inl rfl) rfl rfl (Nat.le_of_ble_eq_true rfl) (L' := [(a, t, .inr (3, [.ref q8, e1, .int (iI 0), .int (iI (0 + 1)), .int (iI 12), e5, e6, e7, .ref q9, .ref q9, e10, .int (iI 0)])), (q9, w, .inr (6, [.int (iI h), .ref k, .ref x, .null, .null, .null])), (q8, u, .inl (EV.2.1 4, 16, .inr (.inr (.inr (.inr (va_up (fun _ => none) (h.toNat) (some q9)))))))]) rfl ?_
  refine l_run X 2 (pc1 := 271) (ls1 := [_, _, _, _, _, _, _, _, _, _, _, _, _]) (st1 := [_, _]) rfl ?_
  refine l_get X 0 rfl fJ4_156 rfl rfl ?_
  refine l_run X 3 (pc1 := 277) (ls1 := [_, _, _, _, _, _, _, _, _, _, _, _, _]) (st1 := [_, _, _]) rfl ?_
  refine l_eq (ls' := [some (.ref a), some (.int (iI h)), some (.ref k), some (.ref x), some (.int (iI 0)), some (.int (iI 1)), some (.ref q8), some (.null), some (.int (iI 16)), some (.int (iI h)), none, none, none]) (st' := [.int (iI (0 + 1)), .ref a, .int (iI (0 + 1))]) (by simp only [iI_add, iI_sub, iI_mul, iI_neg]) (by simp only [iI_add, iI_sub, iI_mul, iI_neg]) ?_
  refine l_put X gKt 0 rfl fJ4_156 rfl (by first | exact gDb_s rfl | exact gDp3 htw htu huw.symm | exact gDp3 htu htw huw | exact gDp3 htu.symm huw htw | exact gDp3 huw.symm htw.symm htu | exact gDp3 htw.symm huw.symm htu) (Or.inl rfl) rfl rfl (Nat.le_of_ble_eq_true rfl) (L' := [(a, t, .inr (3, [.ref q8, e1, .int (iI (0 + 1)), .int (iI (0 + 1)), .int (iI 12), e5, e6, e7, .ref q9, .ref q9, e10, .int (iI 0)])), (q9, w, .inr (6, [.int (iI h), .ref k, .ref x, .null, .null, .null])), (q8, u, .inl (EV.2.1 4, 16, .inr (.inr (.inr (.inr (va_up (fun _ => none) (h.toNat) (some q9)))))))]) rfl ?_
  refine l_run X 1 (pc1 := 281) (ls1 := [_, _, _, _, _, _, _, _, _, _, _, _, _]) (st1 := [_, _]) rfl ?_
  refine l_get X 0 rfl fJ4_88 rfl rfl ?_
  refine l_br X (pc1 := 292) (st1 := []) rfl (fun b9 => ?_) (fun b9 => ?_)
  · have c284 : ((0 + 1) : Int) ≤ (12 : Int) := cLe b9 (by omega) (by omega)
    refine l_run X 2 (pc1 := 295) (ls1 := [_, _, _, _, _, _, _, _, _, _, _, _, _]) (st1 := [_, _]) rfl ?_
    refine l_callU X gKt [0] [1, 2] 0 rfl mJ4_205_3 (jc_aftIns z.2.1 EV) rfl (fun _ _ _ => trivial) rfl rfl (fun _ h => h.elim) (fun _ _ h => h) rfl rfl (Nat.le_of_ble_eq_true rfl) (gFit.of hR (Nat.le_of_ble_eq_true rfl) (Nat.le_of_ble_eq_true rfl) (Nat.le_of_ble_eq_true rfl)) (fun v9 L9 h9 => ?_)
    obtain ⟨rfl, rfl⟩ := h9
    refine l_eq (st' := []) rfl rfl ?_
    refine l_L (L' := [(a, t, .inr (3, [.ref q8, e1, .int (iI (0 + 1)), .int (iI (0 + 1)), .int (iI 12), e5, e6, e7, .ref q9, .ref q9, e10, .int (iI 0)])), (q9, w, .inr (6, [.int (iI h), .ref k, .ref x, .null, .null, .null])), (q8, u, .inl (EV.2.1 4, 16, .inr (.inr (.inr (.inr (va_up (fun _ => none) (h.toNat) (some q9)))))))]) rfl ?_
    refine l_run X 1 (pc1 := 299) (ls1 := [_, _, _, _, _, _, _, _, _, _, _, _, _]) (st1 := [_]) rfl ?_
    refine l_sub [0, 2, 1] (L' := [(a, t, .inr (3, [.ref q8, e1, .int (iI (0 + 1)), .int (iI (0 + 1)), .int (iI 12), e5, e6, e7, .ref q9, .ref q9, e10, .int (iI 0)])), (q8, u, .inl (EV.2.1 4, 16, .inr (.inr (.inr (.inr (va_up (fun _ => none) (h.toNat) (some q9))))))), (q9, w, .inr (6, [.int (iI h), .ref k, .ref x, .null, .null, .null]))]) rfl ?_
    exact l_aret X hQ rfl rfl (Or.inl ⟨_, rfl⟩) (Or.inl rfl) (by decide) (by decide) ⟨q8, q9, rfl, rfl⟩
  · have c284 : (12 : Int) < ((0 + 1) : Int) := cNe b9 (by omega) (by omega)
    exact absurd c284 (by omega)
set_option maxHeartbeats 1000000 in
theorem jc_putValN (l : Launch) (EV : gEV) {a : Nat} {t : gTag} {e1 e5 e6 e7 e10 : Value} {d k x b y9 : Nat} {u w v : gTag} (htu : t ≠ u) (htw : t ≠ w) (huw : u ≠ w) (htv : t ≠ v) (hwv : w ≠ v) (huv : u ≠ v) {h n : Int} (hh : 0 ≤ h ∧ h < 16) (hn : 0 ≤ n ∧ n < 12) {f : Nat → Option Nat} (hf : f h.toNat = none) {y0 y1 y2 y3 y4 y5 : Value} : JC l yJ4_putVal cJ4_putVal 13 (some (.object "java/lang/Object")) 4 2 22 EV kT (fun y => y = t ∨ y = w ∨ y = v ∨ y = u) [.ref a, .int (iI h), .ref k, .ref x, .int (iI 0), .int (iI 1)] [(a, t, .inr (3, [.ref d, e1, .int (iI n), .int (iI n), .int (iI 12), e5, e6, e7, .ref y9, .ref b, e10, .int (iI 0)])), (d, u, .inl (EV.2.1 4, 16, .inr (.inr (.inr (.inr (f)))))), (b, v, .inr (6, [y0, y1, y2, y3, y4, y5]))] (fun v9 L9 => ∃ q9 : Nat, v9 = some .null ∧ L9 = [(a, t, .inr (3, [.ref d, e1, .int (iI (n + 1)), .int (iI (n + 1)), .int (iI 12), e5, e6, e7, .ref y9, .ref q9, e10, .int (iI 0)])), (d, u, .inl (EV.2.1 4, 16, .inr (.inr (.inr (.inr (va_up (f) (h.toNat) (some q9))))))), (q9, w, .inr (6, [.int (iI h), .ref k, .ref x, .null, .ref b, .null])), (b, v, .inr (6, [y0, y1, y2, y3, y4, .ref q9]))]) := by
  refine l_body tbJ4_putVal tkJ4_putVal (by decide) (by intro v hv; simp only [List.mem_cons, List.not_mem_nil, or_false] at hv; rcases hv with rfl | rfl | rfl | rfl | rfl | rfl <;> rfl) (Nat.le_of_ble_eq_true rfl) (fun M0 z Q X hl hR hQ => ?_)
  subst hl
  refine l_eq (ls' := [some (.ref a), some (.int (iI h)), some (.ref k), some (.ref x), some (.int (iI 0)), some (.int (iI 1)), none, none, none, none, none, none, none]) (st' := []) rfl rfl ?_
  refine l_run X 1 (pc1 := 1) (ls1 := [_, _, _, _, _, _, _, _, _, _, _, _, _]) (st1 := [_]) rfl ?_
  refine l_get X 0 rfl fJ4_105 rfl rfl ?_
  refine l_run X 4 (pc1 := 12) (ls1 := [_, _, _, _, _, _, _, _, _, _, _, _, _]) (st1 := [_]) rfl ?_
  refine l_alen X 1 4 rfl rfl rfl (v := iI 16) rfl ?_
  refine l_run X 2 (pc1 := 16) (ls1 := [_, _, _, _, _, _, _, _, _, _, _, _, _]) (st1 := [_]) rfl ?_
  refine l_br X (pc1 := 29) (st1 := []) rfl (fun b9 => ?_) (fun b9 => ?_)
  · have c16 : ¬ (16 : Int) = (0 : Int) := cNq b9 (by omega) (by omega)
    refine l_run X 5 (pc1 := 36) (ls1 := [_, _, _, _, _, _, _, _, _, _, _, _, _]) (st1 := [_, _, _]) rfl ?_
    refine l_eq (ls' := [some (.ref a), some (.int (iI h)), some (.ref k), some (.ref x), some (.int (iI 0)), some (.int (iI 1)), some (.ref d), none, some (.int (iI 16)), none, none, none, none]) (st' := [.int (iI h), .int (iI (16 - 1)), .ref d]) (by simp only [iI_add, iI_sub, iI_mul, iI_neg]) (by simp only [iI_add, iI_sub, iI_mul, iI_neg]) ?_
    refine l_run X 1 (pc1 := 37) (ls1 := [_, _, _, _, _, _, _, _, _, _, _, _, _]) (st1 := [_, _]) rfl ?_
    refine l_eq (ls' := [some (.ref a), some (.int (iI h)), some (.ref k), some (.ref x), some (.int (iI 0)), some (.int (iI 1)), some (.ref d), none, some (.int (iI 16)), none, none, none, none]) (st' := [.int (iI h), .ref d]) rfl (by rw [and15 (by omega)]) ?_
    refine l_run X 2 (pc1 := 40) (ls1 := [_, _, _, _, _, _, _, _, _, _, _, _, _]) (st1 := [_, _]) rfl ?_
    refine l_aald X 1 4 (v := .null) rfl rfl rfl (gIx_i (by omega) (by omega)) (by rw [hf]; rfl) ?_
    refine l_run X 10 (pc1 := 56) (ls1 := [_, _, _, _, _, _, _, _, _, _, _, _, _]) (st1 := [_, _, _, _, _, _, _]) rfl ?_
    refine l_callU X gKt [0, 2] [1] 0 rfl mJ4_186_3 (jc_newNodeN z.2.1 EV htw htv hwv) rfl (fun _ _ _ => trivial) rfl rfl (fun _ h => h.elim Or.inl (fun h => h.elim (fun h => Or.inr (Or.inl h)) (fun h => Or.inr (Or.inr (Or.inl h))))) (fun y hy => by simp at hy; subst hy; exact fun e => e.elim (fun e => htu e.symm) (fun e => e.elim huw huv)) rfl rfl (Nat.le_of_ble_eq_true rfl) (gFit.of hR (Nat.le_of_ble_eq_true rfl) (Nat.le_of_ble_eq_true rfl) (Nat.le_of_ble_eq_true rfl)) (fun v9 L9 h9 => ?_)
    obtain ⟨q9, rfl, rfl⟩ := h9
    refine l_eq (st' := [.ref q9, .int (iI h), .ref d]) rfl rfl ?_
    refine l_L (L' := [(a, t, .inr (3, [.ref d, e1, .int (iI n), .int (iI n), .int (iI 12), e5, e6, e7, .ref y9, .ref q9, e10, .int (iI 0)])), (q9, w, .inr (6, [.int (iI h), .ref k, .ref x, .null, .ref b, .null])), (b, v, .inr (6, [y0, y1, y2, y3, y4, .ref q9])), (d, u, .inl (EV.2.1 4, 16, .inr (.inr (.inr (.inr (f))))))]) rfl ?_
    refine l_aastM X gKt 3 1 rfl rfl rfl q2732 (by first | exact gDp3 htu htv huv | exact gDp4 htw htv htu hwv huw.symm huv.symm | exact gDp4 htu htw htv huw huv hwv) (Or.inr (Or.inr (Or.inr rfl))) (gIx_i (by omega) (by omega)) (L' := [(a, t, .inr (3, [.ref d, e1, .int (iI n), .int (iI n), .int (iI 12), e5, e6, e7, .ref y9, .ref q9, e10, .int (iI 0)])), (q9, w, .inr (6, [.int (iI h), .ref k, .ref x, .null, .ref b, .null])), (b, v, .inr (6, [y0, y1, y2, y3, y4, .ref q9])), (d, u, .inl (EV.2.1 4, 16, .inr (.inr (.inr (.inr (va_up (f) (h.toNat) (some q9)))))))]) rfl ?_
    refine l_run X 3 (pc1 := 261) (ls1 := [_, _, _, _, _, _, _, _, _, _, _, _, _]) (st1 := [_, _]) rfl ?_
    refine l_get X 0 rfl fJ4_202 rfl rfl ?_
    refine l_run X 2 (pc1 := 266) (ls1 := [_, _, _, _, _, _, _, _, _, _, _, _, _]) (st1 := [_, _]) rfl ?_
    refine l_eq (ls' := [some (.ref a), some (.int (iI h)), some (.ref k), some (.ref x), some (.int (iI 0)), some (.int (iI 1)), some (.ref d), some (.null), some (.int (iI 16)), some (.int (iI h)), none, none, none]) (st' := [.int (iI (n + 1)), .ref a]) (by simp only [iI_add, iI_sub, iI_mul, iI_neg]) (by simp only [iI_add, iI_sub, iI_mul, iI_neg]) ?_
    refine l_put X gKt 0 rfl fJ4_202 rfl (by first | exact gDp3 htu htv huv | exact gDp4 htw htv htu hwv huw.symm huv.symm | exact gDp4 htu htw htv huw huv hwv) (Or.inl rfl) rfl rfl (Nat.le_of_ble_eq_true rfl) (L' := [(a, t, .inr (3, [.ref d, e1, .int (iI n), .int (iI (n + 1)), .int (iI 12), e5, e6, e7, .ref y9, .ref q9, e10, .int (iI 0)])), (q9, w, .inr (6, [.int (iI h), .ref k, .ref x, .null, .ref b, .null])), (b, v, .inr (6, [y0, y1, y2, y3, y4, .ref q9])), (d, u, .inl (EV.2.1 4, 16, .inr (.inr (.inr (.inr (va_up (f) (h.toNat) (some q9)))))))]) rfl ?_
    refine l_run X 2 (pc1 := 271) (ls1 := [_, _, _, _, _, _, _, _, _, _, _, _, _]) (st1 := [_, _]) rfl ?_
    refine l_get X 0 rfl fJ4_156 rfl rfl ?_
    refine l_run X 3 (pc1 := 277) (ls1 := [_, _, _, _, _, _, _, _, _, _, _, _, _]) (st1 := [_, _, _]) rfl ?_
    refine l_eq (ls' := [some (.ref a), some (.int (iI h)), some (.ref k), some (.ref x), some (.int (iI 0)), some (.int (iI 1)), some (.ref d), some (.null), some (.int (iI 16)), some (.int (iI h)), none, none, none]) (st' := [.int (iI (n + 1)), .ref a, .int (iI (n + 1))]) (by simp only [iI_add, iI_sub, iI_mul, iI_neg]) (by simp only [iI_add, iI_sub, iI_mul, iI_neg]) ?_
    refine l_put X gKt 0 rfl fJ4_156 rfl (by first | exact gDp3 htu htv huv | exact gDp4 htw htv htu hwv huw.symm huv.symm | exact gDp4 htu htw htv huw huv hwv) (Or.inl rfl) rfl rfl (Nat.le_of_ble_eq_true rfl) (L' := [(a, t, .inr (3, [.ref d, e1, .int (iI (n + 1)), .int (iI (n + 1)), .int (iI 12), e5, e6, e7, .ref y9, .ref q9, e10, .int (iI 0)])), (q9, w, .inr (6, [.int (iI h), .ref k, .ref x, .null, .ref b, .null])), (b, v, .inr (6, [y0, y1, y2, y3, y4, .ref q9])), (d, u, .inl (EV.2.1 4, 16, .inr (.inr (.inr (.inr (va_up (f) (h.toNat) (some q9)))))))]) rfl ?_
    refine l_run X 1 (pc1 := 281) (ls1 := [_, _, _, _, _, _, _, _, _, _, _, _, _]) (st1 := [_, _]) rfl ?_
    refine l_get X 0 rfl fJ4_88 rfl rfl ?_
    refine l_br X (pc1 := 292) (st1 := []) rfl (fun b9 => ?_) (fun b9 => ?_)
    · have c284 : (n + 1) ≤ 12 := cLe b9 (by omega) (by omega)
      refine l_run X 2 (pc1 := 295) (ls1 := [_, _, _, _, _, _, _, _, _, _, _, _, _]) (st1 := [_, _]) rfl ?_
      refine l_callU X gKt [0] [1, 2, 3] 0 rfl mJ4_205_3 (jc_aftIns z.2.1 EV) rfl (fun _ _ _ => trivial) rfl rfl (fun _ h => h.elim) (fun _ _ h => h) rfl rfl (Nat.le_of_ble_eq_true rfl) (gFit.of hR (Nat.le_of_ble_eq_true rfl) (Nat.le_of_ble_eq_true rfl) (Nat.le_of_ble_eq_true rfl)) (fun v9 L9 h9 => ?_)
      obtain ⟨rfl, rfl⟩ := h9
      refine l_eq (st' := []) rfl rfl ?_
      refine l_L (L' := [(a, t, .inr (3, [.ref d, e1, .int (iI (n + 1)), .int (iI (n + 1)), .int (iI 12), e5, e6, e7, .ref y9, .ref q9, e10, .int (iI 0)])), (q9, w, .inr (6, [.int (iI h), .ref k, .ref x, .null, .ref b, .null])), (b, v, .inr (6, [y0, y1, y2, y3, y4, .ref q9])), (d, u, .inl (EV.2.1 4, 16, .inr (.inr (.inr (.inr (va_up (f) (h.toNat) (some q9)))))))]) rfl ?_
      refine l_run X 1 (pc1 := 299) (ls1 := [_, _, _, _, _, _, _, _, _, _, _, _, _]) (st1 := [_]) rfl ?_
      refine l_sub [0, 3, 1, 2] (L' := [(a, t, .inr (3, [.ref d, e1, .int (iI (n + 1)), .int (iI (n + 1)), .int (iI 12), e5, e6, e7, .ref y9, .ref q9, e10, .int (iI 0)])), (d, u, .inl (EV.2.1 4, 16, .inr (.inr (.inr (.inr (va_up (f) (h.toNat) (some q9))))))), (q9, w, .inr (6, [.int (iI h), .ref k, .ref x, .null, .ref b, .null])), (b, v, .inr (6, [y0, y1, y2, y3, y4, .ref q9]))]) rfl ?_
      exact l_aret X hQ rfl rfl (Or.inl ⟨_, rfl⟩) (Or.inl rfl) (by decide) (by decide) ⟨q9, rfl, rfl⟩
    · have c284 : 12 < (n + 1) := cNe b9 (by omega) (by omega)
      exact absurd c284 (by omega)
  · have c16 : (16 : Int) = (0 : Int) := cEq b9 (by omega) (by omega)
    exact absurd c16 (by omega)
set_option maxHeartbeats 1000000 in
theorem jc_put0 (l : Launch) (EV : gEV) {a : Nat} {t : gTag} {e1 e5 e6 e7 e10 : Value} {k x : Nat} {u w : gTag} (htu : t ≠ u) (htw : t ≠ w) (huw : u ≠ w) {ky : gTag} (hkt : ky ≠ t) (hku : ky ≠ u) (hkw : ky ≠ w) {lo hi : Int} (hlo : 0 ≤ lo ∧ lo ≤ 2) (hhi : 0 ≤ hi ∧ hi ≤ 2) : JC l yJ4_put cJ4_put 3 (some (.object "java/lang/Object")) 5 2 22 EV kT (tO3 t u w) [.ref a, .ref k, .ref x] [(a, t, .inr (3, [.null, e1, .int (iI 0), .int (iI 0), .int (iI 0), e5, e6, e7, .null, .null, e10, .int (iI 0)])), (k, ky, .inr (4, [.int (iI lo), .int (iI hi)]))] (fun v9 L9 => ∃ q8 q9 : Nat, v9 = some .null ∧ L9 = [(a, t, .inr (3, [.ref q8, e1, .int (iI 1), .int (iI 1), .int (iI 12), e5, e6, e7, .ref q9, .ref q9, e10, .int (iI 0)])), (q8, u, .inl (EV.2.1 4, 16, .inr (.inr (.inr (.inr (va_up (fun _ => none) (((3 * lo) + hi).toNat) (some q9))))))), (q9, w, .inr (6, [.int (iI ((3 * lo) + hi)), .ref k, .ref x, .null, .null, .null])), (k, ky, .inr (4, [.int (iI lo), .int (iI hi)]))]) := by
  refine l_body tbJ4_put tkJ4_put (by decide) (by intro v hv; simp only [List.mem_cons, List.not_mem_nil, or_false] at hv; rcases hv with rfl | rfl | rfl <;> rfl) (Nat.le_of_ble_eq_true rfl) (fun M0 z Q X hl hR hQ => ?_)
  subst hl
  refine l_eq (ls' := [some (.ref a), some (.ref k), some (.ref x)]) (st' := []) rfl rfl ?_
  refine l_run X 2 (pc1 := 2) (ls1 := [_, _, _]) (st1 := [_, _]) rfl ?_
  refine l_callS X gKt [1] [0] rfl mJ4_149 (jc_hm_hash z.2.1 EV hlo hhi) (fun _ _ _ => trivial) rfl rfl (fun _ h => h.elim) (fun _ _ h => h) rfl rfl (Nat.le_of_ble_eq_true rfl) (gFit.of hR (Nat.le_of_ble_eq_true rfl) (Nat.le_of_ble_eq_true rfl) (Nat.le_of_ble_eq_true rfl)) (fun v9 L9 h9 => ?_)
  obtain ⟨rfl, rfl⟩ := h9
  refine l_eq (st' := [.int (iI ((3 * lo) + hi)), .ref a]) rfl rfl ?_
  refine l_L (L' := [(k, ky, .inr (4, [.int (iI lo), .int (iI hi)])), (a, t, .inr (3, [.null, e1, .int (iI 0), .int (iI 0), .int (iI 0), e5, e6, e7, .null, .null, e10, .int (iI 0)]))]) rfl ?_
  refine l_run X 4 (pc1 := 9) (ls1 := [_, _, _]) (st1 := [_, _, _, _, _, _]) rfl ?_
  refine l_callU X gKt [1] [0] 1 rfl mJ4_152_3 (jc_putVal0 z.2.1 EV htu htw huw (h := ((3 * lo) + hi)) (by omega)) rfl (fun _ _ _ => trivial) rfl rfl (fun _ h => h) (fun y hy => by simp at hy; subst hy; exact fun e => e.elim hkt (fun e => e.elim hku hkw)) rfl rfl (Nat.le_of_ble_eq_true rfl) (gFit.of hR (Nat.le_of_ble_eq_true rfl) (Nat.le_of_ble_eq_true rfl) (Nat.le_of_ble_eq_true rfl)) (fun v9 L9 h9 => ?_)
  obtain ⟨q8, q9, rfl, rfl⟩ := h9
  refine l_eq (st' := [.null]) rfl rfl ?_
  refine l_L (L' := [(a, t, .inr (3, [.ref q8, e1, .int (iI 1), .int (iI 1), .int (iI 12), e5, e6, e7, .ref q9, .ref q9, e10, .int (iI 0)])), (q8, u, .inl (EV.2.1 4, 16, .inr (.inr (.inr (.inr (va_up (fun _ => none) (((3 * lo) + hi).toNat) (some q9))))))), (q9, w, .inr (6, [.int (iI ((3 * lo) + hi)), .ref k, .ref x, .null, .null, .null])), (k, ky, .inr (4, [.int (iI lo), .int (iI hi)]))]) rfl ?_
  exact l_aret X hQ rfl rfl (Or.inl ⟨_, rfl⟩) (Or.inl rfl) (by decide) (by decide) ⟨q8, q9, rfl, rfl⟩
set_option maxHeartbeats 1000000 in
theorem jc_putN (l : Launch) (EV : gEV) {a : Nat} {t : gTag} {e1 e5 e6 e7 e10 : Value} {d k x b y9 : Nat} {u w v : gTag} (htu : t ≠ u) (htw : t ≠ w) (huw : u ≠ w) (htv : t ≠ v) (hwv : w ≠ v) (huv : u ≠ v) {ky : gTag} (hkt : ky ≠ t) (hku : ky ≠ u) (hkw : ky ≠ w) (hkv : ky ≠ v) {lo hi : Int} (hlo : 0 ≤ lo ∧ lo ≤ 2) (hhi : 0 ≤ hi ∧ hi ≤ 2) {n : Int} (hn : 0 ≤ n ∧ n < 12) {f : Nat → Option Nat} (hf : f ((3 * lo) + hi).toNat = none) {y0 y1 y2 y3 y4 y5 : Value} : JC l yJ4_put cJ4_put 3 (some (.object "java/lang/Object")) 5 2 22 EV kT (fun y => y = t ∨ y = w ∨ y = v ∨ y = u) [.ref a, .ref k, .ref x] [(a, t, .inr (3, [.ref d, e1, .int (iI n), .int (iI n), .int (iI 12), e5, e6, e7, .ref y9, .ref b, e10, .int (iI 0)])), (d, u, .inl (EV.2.1 4, 16, .inr (.inr (.inr (.inr (f)))))), (b, v, .inr (6, [y0, y1, y2, y3, y4, y5])), (k, ky, .inr (4, [.int (iI lo), .int (iI hi)]))] (fun v9 L9 => ∃ q9 : Nat, v9 = some .null ∧ L9 = [(a, t, .inr (3, [.ref d, e1, .int (iI (n + 1)), .int (iI (n + 1)), .int (iI 12), e5, e6, e7, .ref y9, .ref q9, e10, .int (iI 0)])), (d, u, .inl (EV.2.1 4, 16, .inr (.inr (.inr (.inr (va_up (f) (((3 * lo) + hi).toNat) (some q9))))))), (q9, w, .inr (6, [.int (iI ((3 * lo) + hi)), .ref k, .ref x, .null, .ref b, .null])), (b, v, .inr (6, [y0, y1, y2, y3, y4, .ref q9])), (k, ky, .inr (4, [.int (iI lo), .int (iI hi)]))]) := by
  refine l_body tbJ4_put tkJ4_put (by decide) (by intro v hv; simp only [List.mem_cons, List.not_mem_nil, or_false] at hv; rcases hv with rfl | rfl | rfl <;> rfl) (Nat.le_of_ble_eq_true rfl) (fun M0 z Q X hl hR hQ => ?_)
  subst hl
  refine l_eq (ls' := [some (.ref a), some (.ref k), some (.ref x)]) (st' := []) rfl rfl ?_
  refine l_run X 2 (pc1 := 2) (ls1 := [_, _, _]) (st1 := [_, _]) rfl ?_
  refine l_callS X gKt [3] [0, 1, 2] rfl mJ4_149 (jc_hm_hash z.2.1 EV hlo hhi) (fun _ _ _ => trivial) rfl rfl (fun _ h => h.elim) (fun _ _ h => h) rfl rfl (Nat.le_of_ble_eq_true rfl) (gFit.of hR (Nat.le_of_ble_eq_true rfl) (Nat.le_of_ble_eq_true rfl) (Nat.le_of_ble_eq_true rfl)) (fun v9 L9 h9 => ?_)
  obtain ⟨rfl, rfl⟩ := h9
  refine l_eq (st' := [.int (iI ((3 * lo) + hi)), .ref a]) rfl rfl ?_
  refine l_L (L' := [(k, ky, .inr (4, [.int (iI lo), .int (iI hi)])), (a, t, .inr (3, [.ref d, e1, .int (iI n), .int (iI n), .int (iI 12), e5, e6, e7, .ref y9, .ref b, e10, .int (iI 0)])), (d, u, .inl (EV.2.1 4, 16, .inr (.inr (.inr (.inr (f)))))), (b, v, .inr (6, [y0, y1, y2, y3, y4, y5]))]) rfl ?_
  refine l_run X 4 (pc1 := 9) (ls1 := [_, _, _]) (st1 := [_, _, _, _, _, _]) rfl ?_
  refine l_callU X gKt [1, 2, 3] [0] 1 rfl mJ4_152_3 (jc_putValN z.2.1 EV htu htw huw htv hwv huv (h := ((3 * lo) + hi)) (by omega) hn hf) rfl (fun _ _ _ => trivial) rfl rfl (fun _ h => h) (fun y hy => by simp at hy; subst hy; exact fun e => e.elim hkt (fun e => e.elim hkw (fun e => e.elim hkv hku))) rfl rfl (Nat.le_of_ble_eq_true rfl) (gFit.of hR (Nat.le_of_ble_eq_true rfl) (Nat.le_of_ble_eq_true rfl) (Nat.le_of_ble_eq_true rfl)) (fun v9 L9 h9 => ?_)
  obtain ⟨q9, rfl, rfl⟩ := h9
  refine l_eq (st' := [.null]) rfl rfl ?_
  refine l_L (L' := [(a, t, .inr (3, [.ref d, e1, .int (iI (n + 1)), .int (iI (n + 1)), .int (iI 12), e5, e6, e7, .ref y9, .ref q9, e10, .int (iI 0)])), (d, u, .inl (EV.2.1 4, 16, .inr (.inr (.inr (.inr (va_up (f) (((3 * lo) + hi).toNat) (some q9))))))), (q9, w, .inr (6, [.int (iI ((3 * lo) + hi)), .ref k, .ref x, .null, .ref b, .null])), (b, v, .inr (6, [y0, y1, y2, y3, y4, .ref q9])), (k, ky, .inr (4, [.int (iI lo), .int (iI hi)]))]) rfl ?_
  exact l_aret X hQ rfl rfl (Or.inl ⟨_, rfl⟩) (Or.inl rfl) (by decide) (by decide) ⟨q9, rfl, rfl⟩
set_option maxHeartbeats 1000000 in
theorem jc_getNode (l : Launch) (EV : gEV) {a : Nat} {t : gTag} {e1 e2 e3 e4 e5 e6 e7 e8 e9 e11 : Value} {d b k p x : Nat} {u v ky kp : gTag} {lo hi : Int} (hlo : 0 ≤ lo ∧ lo ≤ 2) (hhi : 0 ≤ hi ∧ hi ≤ 2) {f : Nat → Option Nat} (hf : f ((3 * lo) + hi).toNat = some b) {y3 y4 y5 : Value} : JC l yJ4_getNode cJ4_getNode 8 (some (.object "java/util/HashMap$Node")) 3 0 0 EV kT tF [.ref a, .ref p] [(a, t, .inr (3, [.ref d, e1, e2, e3, e4, e5, e6, e7, e8, e9, .int (iI 0), e11])), (d, u, .inl (EV.2.1 4, 16, .inr (.inr (.inr (.inr (f)))))), (b, v, .inr (6, [.int (iI ((3 * lo) + hi)), .ref k, .ref x, y3, y4, y5])), (k, ky, .inr (4, [.int (iI lo), .int (iI hi)])), (p, kp, .inr (4, [.int (iI lo), .int (iI hi)]))] (jP (some (.ref b)) [(a, t, .inr (3, [.ref d, e1, e2, e3, e4, e5, e6, e7, e8, e9, .int (iI 0), e11])), (d, u, .inl (EV.2.1 4, 16, .inr (.inr (.inr (.inr (f)))))), (b, v, .inr (6, [.int (iI ((3 * lo) + hi)), .ref k, .ref x, y3, y4, y5])), (k, ky, .inr (4, [.int (iI lo), .int (iI hi)])), (p, kp, .inr (4, [.int (iI lo), .int (iI hi)]))]) := by
  refine l_body tbJ4_getNode tkJ4_getNode (by decide) (by intro v hv; simp only [List.mem_cons, List.not_mem_nil, or_false] at hv; rcases hv with rfl | rfl <;> rfl) (Nat.le_of_ble_eq_true rfl) (fun M0 z Q X hl hR hQ => ?_)
  subst hl
  refine l_eq (ls' := [some (.ref a), some (.ref p), none, none, none, none, none, none]) (st' := []) rfl rfl ?_
  refine l_run X 1 (pc1 := 1) (ls1 := [_, _, _, _, _, _, _, _]) (st1 := [_]) rfl ?_
  refine l_get X 0 rfl fJ4_105 rfl rfl ?_
  refine l_run X 4 (pc1 := 10) (ls1 := [_, _, _, _, _, _, _, _]) (st1 := [_]) rfl ?_
  refine l_alen X 1 4 rfl rfl rfl (v := iI 16) rfl ?_
  refine l_run X 2 (pc1 := 14) (ls1 := [_, _, _, _, _, _, _, _]) (st1 := [_]) rfl ?_
  refine l_br X (pc1 := 148) (st1 := []) rfl (fun b9 => ?_) (fun b9 => ?_)
  · have c14 : (16 : Int) ≤ (0 : Int) := cLe b9 (by omega) (by omega)
    exact absurd c14 (by omega)
  · have c14 : (0 : Int) < (16 : Int) := cNe b9 (by omega) (by omega)
    refine l_run X 5 (pc1 := 23) (ls1 := [_, _, _, _, _, _, _, _]) (st1 := [_, _, _]) rfl ?_
    refine l_eq (ls' := [some (.ref a), some (.ref p), some (.ref d), none, none, some (.int (iI 16)), none, none]) (st' := [.ref p, .int (iI (16 - 1)), .ref d]) (by simp only [iI_add, iI_sub, iI_mul, iI_neg]) (by simp only [iI_add, iI_sub, iI_mul, iI_neg]) ?_
    refine l_callS X gKt [4] [0, 1, 2, 3] rfl mJ4_149 (jc_hm_hash z.2.1 EV hlo hhi) (fun _ _ _ => trivial) rfl rfl (fun _ h => h.elim) (fun _ _ h => h) rfl rfl (Nat.le_of_ble_eq_true rfl) (gFit.of hR (Nat.le_of_ble_eq_true rfl) (Nat.le_of_ble_eq_true rfl) (Nat.le_of_ble_eq_true rfl)) (fun v9 L9 h9 => ?_)
    obtain ⟨rfl, rfl⟩ := h9
    refine l_eq (st' := [.int (iI ((3 * lo) + hi)), .int (iI (16 - 1)), .ref d]) rfl rfl ?_
    refine l_L (L' := [(p, kp, .inr (4, [.int (iI lo), .int (iI hi)])), (a, t, .inr (3, [.ref d, e1, e2, e3, e4, e5, e6, e7, e8, e9, .int (iI 0), e11])), (d, u, .inl (EV.2.1 4, 16, .inr (.inr (.inr (.inr (f)))))), (b, v, .inr (6, [.int (iI ((3 * lo) + hi)), .ref k, .ref x, y3, y4, y5])), (k, ky, .inr (4, [.int (iI lo), .int (iI hi)]))]) rfl ?_
    refine l_run X 2 (pc1 := 29) (ls1 := [_, _, _, _, _, _, _, _]) (st1 := [_, _, _]) rfl ?_
    refine l_run X 1 (pc1 := 30) (ls1 := [_, _, _, _, _, _, _, _]) (st1 := [_, _]) rfl ?_
    refine l_eq (ls' := [some (.ref a), some (.ref p), some (.ref d), none, none, some (.int (iI 16)), some (.int (iI ((3 * lo) + hi))), none]) (st' := [.int (iI ((3 * lo) + hi)), .ref d]) rfl (by rw [and15 (by omega)]) ?_
    refine l_aald X 2 4 (v := .ref b) rfl rfl rfl (gIx_i (by omega) (by omega)) (by rw [hf]; rfl) ?_
    refine l_run X 4 (pc1 := 37) (ls1 := [_, _, _, _, _, _, _, _]) (st1 := [_]) rfl ?_
    refine l_get X 3 rfl fJ4_168 rfl rfl ?_
    refine l_run X 1 (pc1 := 42) (ls1 := [_, _, _, _, _, _, _, _]) (st1 := [_, _]) rfl ?_
    refine l_br X (pc1 := 71) (st1 := []) rfl (fun b9 => ?_) (fun b9 => ?_)
    · have c42 : ¬ ((3 * lo) + hi) = ((3 * lo) + hi) := cNq b9 (by omega) (by omega)
      exact absurd rfl c42
    · have c42 : ((3 * lo) + hi) = ((3 * lo) + hi) := cEq b9 (by omega) (by omega)
      refine l_run X 1 (pc1 := 46) (ls1 := [_, _, _, _, _, _, _, _]) (st1 := [_]) rfl ?_
      refine l_get X 3 rfl fJ4_170 rfl rfl ?_
      refine l_run X 3 (pc1 := 53) (ls1 := [_, _, _, _, _, _, _, _]) (st1 := [_, _]) rfl ?_
      refine l_acmpE X (some k) (some p) (tgt := 69) rfl rfl rfl (fun _ => ?_) (fun _ => ?_)
      · skip
        refine l_run X 1 (pc1 := 70) (ls1 := [_, _, _, _, _, _, _, _]) (st1 := [_]) rfl ?_
        refine l_sub [1, 2, 3, 4, 0] (L' := [(a, t, .inr (3, [.ref d, e1, e2, e3, e4, e5, e6, e7, e8, e9, .int (iI 0), e11])), (d, u, .inl (EV.2.1 4, 16, .inr (.inr (.inr (.inr (f)))))), (b, v, .inr (6, [.int (iI ((3 * lo) + hi)), .ref k, .ref x, y3, y4, y5])), (k, ky, .inr (4, [.int (iI lo), .int (iI hi)])), (p, kp, .inr (4, [.int (iI lo), .int (iI hi)]))]) rfl ?_
        exact l_aret X hQ rfl rfl (by first | exact Or.inl ⟨_, rfl⟩ | exact Or.inr ⟨_, rfl⟩) (Or.inr ⟨_, rfl⟩) (Nat.le_of_ble_eq_true rfl) (Nat.le_of_ble_eq_true rfl) ⟨rfl, rfl⟩
      · skip
        refine l_run X 4 (pc1 := 63) (ls1 := [_, _, _, _, _, _, _, _]) (st1 := [_, _]) rfl ?_
        refine l_callU X gKt [0, 4] [1, 2, 3] 0 rfl mJ4_173_4 (jc_pair_eq z.2.1 EV (by omega) (by omega) (by omega) (by omega)) rfl (fun _ _ _ => trivial) rfl rfl (fun _ h => h.elim) (fun _ _ h => h) rfl rfl (Nat.le_of_ble_eq_true rfl) (gFit.of hR (Nat.le_of_ble_eq_true rfl) (Nat.le_of_ble_eq_true rfl) (Nat.le_of_ble_eq_true rfl)) (fun v9 L9 h9 => ?_)
        obtain ⟨rfl, rfl⟩ := h9
        refine l_eq (st' := [.int (iI (bI (lo = lo ∧ hi = hi)))]) rfl rfl ?_
        refine l_L (L' := [(p, kp, .inr (4, [.int (iI lo), .int (iI hi)])), (k, ky, .inr (4, [.int (iI lo), .int (iI hi)])), (a, t, .inr (3, [.ref d, e1, e2, e3, e4, e5, e6, e7, e8, e9, .int (iI 0), e11])), (d, u, .inl (EV.2.1 4, 16, .inr (.inr (.inr (.inr (f)))))), (b, v, .inr (6, [.int (iI ((3 * lo) + hi)), .ref k, .ref x, y3, y4, y5]))]) rfl ?_
        refine l_br X (pc1 := 71) (st1 := []) rfl (fun b9 => ?_) (fun b9 => ?_)
        · have c66 : ¬ (lo = lo ∧ hi = hi) := bI_f b9
          exact absurd ⟨rfl, rfl⟩ c66
        · have c66 : lo = lo ∧ hi = hi := bI_t b9
          refine l_run X 1 (pc1 := 70) (ls1 := [_, _, _, _, _, _, _, _]) (st1 := [_]) rfl ?_
          refine l_sub [2, 3, 4, 1, 0] (L' := [(a, t, .inr (3, [.ref d, e1, e2, e3, e4, e5, e6, e7, e8, e9, .int (iI 0), e11])), (d, u, .inl (EV.2.1 4, 16, .inr (.inr (.inr (.inr (f)))))), (b, v, .inr (6, [.int (iI ((3 * lo) + hi)), .ref k, .ref x, y3, y4, y5])), (k, ky, .inr (4, [.int (iI lo), .int (iI hi)])), (p, kp, .inr (4, [.int (iI lo), .int (iI hi)]))]) rfl ?_
          exact l_aret X hQ rfl rfl (by first | exact Or.inl ⟨_, rfl⟩ | exact Or.inr ⟨_, rfl⟩) (Or.inr ⟨_, rfl⟩) (Nat.le_of_ble_eq_true rfl) (Nat.le_of_ble_eq_true rfl) ⟨rfl, rfl⟩
set_option maxHeartbeats 1000000 in
theorem jc_mapGet (l : Launch) (EV : gEV) {a : Nat} {t : gTag} {e1 e2 e3 e4 e5 e6 e7 e8 e9 e11 : Value} {d b k p x : Nat} {u v ky kp : gTag} {lo hi : Int} (hlo : 0 ≤ lo ∧ lo ≤ 2) (hhi : 0 ≤ hi ∧ hi ≤ 2) {f : Nat → Option Nat} (hf : f ((3 * lo) + hi).toNat = some b) {y3 y4 y5 : Value} : JC l yJ5_get cJ5_get 3 (some (.object "java/lang/Object")) 4 0 0 EV kT tF [.ref a, .ref p] [(a, t, .inr (3, [.ref d, e1, e2, e3, e4, e5, e6, e7, e8, e9, .int (iI 0), e11])), (d, u, .inl (EV.2.1 4, 16, .inr (.inr (.inr (.inr (f)))))), (b, v, .inr (6, [.int (iI ((3 * lo) + hi)), .ref k, .ref x, y3, y4, y5])), (k, ky, .inr (4, [.int (iI lo), .int (iI hi)])), (p, kp, .inr (4, [.int (iI lo), .int (iI hi)]))] (jP (some (.ref x)) [(a, t, .inr (3, [.ref d, e1, e2, e3, e4, e5, e6, e7, e8, e9, .int (iI 0), e11])), (d, u, .inl (EV.2.1 4, 16, .inr (.inr (.inr (.inr (f)))))), (b, v, .inr (6, [.int (iI ((3 * lo) + hi)), .ref k, .ref x, y3, y4, y5])), (k, ky, .inr (4, [.int (iI lo), .int (iI hi)])), (p, kp, .inr (4, [.int (iI lo), .int (iI hi)]))]) := by
  refine l_body tbJ5_get tkJ5_get (by decide) (by intro v hv; simp only [List.mem_cons, List.not_mem_nil, or_false] at hv; rcases hv with rfl | rfl <;> rfl) (Nat.le_of_ble_eq_true rfl) (fun M0 z Q X hl hR hQ => ?_)
  subst hl
  refine l_eq (ls' := [some (.ref a), some (.ref p), none]) (st' := []) rfl rfl ?_
  refine l_run X 2 (pc1 := 2) (ls1 := [_, _, _]) (st1 := [_, _]) rfl ?_
  refine l_callU X gKt [0, 1, 2, 3, 4] [] 0 rfl mJ5_99_3 (jc_getNode z.2.1 EV hlo hhi hf) rfl (fun _ _ _ => trivial) rfl rfl (fun _ h => h.elim) (fun _ _ h => h) rfl rfl (Nat.le_of_ble_eq_true rfl) (gFit.of hR (Nat.le_of_ble_eq_true rfl) (Nat.le_of_ble_eq_true rfl) (Nat.le_of_ble_eq_true rfl)) (fun v9 L9 h9 => ?_)
  obtain ⟨rfl, rfl⟩ := h9
  refine l_eq (st' := [.ref b]) rfl rfl ?_
  refine l_L (L' := [(a, t, .inr (3, [.ref d, e1, e2, e3, e4, e5, e6, e7, e8, e9, .int (iI 0), e11])), (d, u, .inl (EV.2.1 4, 16, .inr (.inr (.inr (.inr (f)))))), (b, v, .inr (6, [.int (iI ((3 * lo) + hi)), .ref k, .ref x, y3, y4, y5])), (k, ky, .inr (4, [.int (iI lo), .int (iI hi)])), (p, kp, .inr (4, [.int (iI lo), .int (iI hi)]))]) rfl ?_
  refine l_run X 4 (pc1 := 13) (ls1 := [_, _, _]) (st1 := [_]) rfl ?_
  refine l_get X 0 rfl fJ5_64 rfl rfl ?_
  refine l_br X (pc1 := 24) (st1 := []) rfl (fun b9 => ?_) (fun b9 => ?_)
  · have c16 : (0 : Int) = (0 : Int) := cEq b9 (by omega) (by omega)
    refine l_run X 1 (pc1 := 25) (ls1 := [_, _, _]) (st1 := [_]) rfl ?_
    refine l_get X 2 rfl fJ5_107 rfl rfl ?_
    exact l_aret X hQ rfl rfl (by first | exact Or.inl ⟨_, rfl⟩ | exact Or.inr ⟨_, rfl⟩) (Or.inr ⟨_, rfl⟩) (Nat.le_of_ble_eq_true rfl) (Nat.le_of_ble_eq_true rfl) ⟨rfl, rfl⟩
  · have c16 : ¬ (0 : Int) = (0 : Int) := cNq b9 (by omega) (by omega)
    exact absurd rfl c16
