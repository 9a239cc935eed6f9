/-! THE JDK's lists, walked over local pictures: ArrayList and its iterator -/
theorem gDp2 {a b : Nat} {t u : gTag} {e f : va_E} (h : t ≠ u) : gDp [(a, t, e), (b, u, f)] := by
  intro i j x y hi hj hij
  rcases i with _ | _ | i <;> rcases j with _ | _ | j <;> simp at hi hj hij <;> subst hi <;> subst hj
  · exact h
  · exact fun e => h e.symm
theorem gDp3 {a b c : Nat} {t u w : gTag} {e f g : va_E} (h : t ≠ u) (h2 : t ≠ w) (h3 : u ≠ w) : gDp [(a, t, e), (b, u, f), (c, w, g)] := by
  intro i j x y hi hj hij
  rcases i with _ | _ | _ | i <;> rcases j with _ | _ | _ | j <;> simp at hi hj hij <;> subst hi <;> subst hj
  · exact h
  · exact h2
  · exact fun e => h e.symm
  · exact h3
  · exact fun e => h2 e.symm
  · exact fun e => h3 e.symm
theorem iI_n0 {x : Int} (h0 : 0 ≤ x) (h : inR x) : ¬ iI x < 0 := by
  have e : iI 0 = (0 : Int32) := rfl
  rw [← e, iI_lt h (by omega)]
  omega
theorem shr1_all : ∀ a : Fin 200, iI (a.val : Int) >>> (iI 1 &&& 31) = iI ((a.val : Int) / 2) := by decide +kernel
theorem shr1 {N : Nat} (h : N < 200) : iI (N : Int) >>> (iI 1 &&& 31) = iI ((N : Int) / 2) := shr1_all ⟨N, h⟩
theorem cpy0 {f : Nat → Option Nat} {N : Nat} (h : N ≤ 1000) : va_cpy f (fun _ => none) (iI 0).toNatClampNeg (iI 0).toNatClampNeg (iI (N : Int)).toNatClampNeg = fun j => if j < N then f j else none := by
  have e0 : (iI 0).toNatClampNeg = 0 := rfl
  rw [e0, iI_c (z := (N : Int)) (by omega) (by omega)]
  funext j
  unfold va_cpy
  by_cases hj : j < N
  · rw [if_pos (by omega), if_pos hj]; congr 1; omega
  · rw [if_neg (by omega), if_neg hj]
def tO2 (t0 t1 : gTag) : gTag → Prop := fun t => t = t0 ∨ t = t1
section
variable {z : gZ} {S : gS} {EV : gEV} {Q : State → Prop} {M0 : gM} {K : gM → Prop} {T : gTag → Prop} {L : gLL} {k n pc : Nat} {ls : List (Option Value)} {st : List Value}
theorem l_gets (X : CX z S EV) {idx : Nat} {C nm ds ref : String} {v : Value} (hT : S.2.2.2.2.1 pc = some (.getstatic idx, 3)) (hZ : va_Z C nm ds v (gA EV) z.2.2.2.2.1 z.2.2.2.2.1.heap) (hl0 : Cond.fieldLink S.2.1 idx ref nm ds ∈ lw_all) (hs : C = ref ∨ Cond.sameField ref C nm ds ∈ lw_all)
    (kk : gLj z S EV Q K T M0 L k n (pc + 3) ls (v :: st)) : gLj z S EV Q K T M0 L k n pc ls st :=
  fun M h1 h2 h3 => g_gets X hT hZ hl0 hs (kk M h1 h2 h3)
end
set_option maxHeartbeats 1000000 in
theorem jc_J0_init (l : Launch) (EV : gEV) {b : Nat} : JC l yJ0_init cJ0_init 1 none 1 0 0 EV kT tF [.ref b] [] (jP none []) := by
  refine l_body tbJ0_init tkJ0_init (by decide) (by intro v hv; simp only [List.mem_cons, List.not_mem_nil, or_false] at hv; rcases hv with rfl <;> rfl) (Nat.le_of_ble_eq_true rfl) (fun M0 z Q X hl hR hQ => ?_)
  subst hl
  refine l_eq (ls' := [some (.ref b)]) (st' := []) rfl rfl ?_
  refine l_run X 1 (pc1 := 1) (ls1 := [_]) (st1 := [_]) rfl ?_
  refine l_oinit X rfl q126 ⟨by rw [hR]; exact Nat.le_of_ble_eq_true rfl, by rw [hR]; exact Nat.le_of_ble_eq_true rfl⟩ (Nat.le_of_ble_eq_true rfl) ?_
  exact l_vret X hQ rfl rfl (Nat.le_of_ble_eq_true rfl) (Nat.le_of_ble_eq_true rfl) ⟨rfl, rfl⟩
set_option maxHeartbeats 1000000 in
theorem jc_J1_init_1 (l : Launch) (EV : gEV) {a : Nat} {t : gTag} {v0 v1 v2 : Value} : JC l yJ1_init cJ1_init 1 none 2 0 0 EV kT (tO t) [.ref a] [(a, t, .inr (1, [v0, v1, v2]))] (jP none [(a, t, .inr (1, [.int (iI 0), v1, v2]))]) := by
  refine l_body tbJ1_init tkJ1_init (by decide) (by intro v hv; simp only [List.mem_cons, List.not_mem_nil, or_false] at hv; rcases hv with rfl <;> rfl) (Nat.le_of_ble_eq_true rfl) (fun M0 z Q X hl hR hQ => ?_)
  subst hl
  refine l_eq (ls' := [some (.ref a)]) (st' := []) rfl rfl ?_
  refine l_run X 1 (pc1 := 1) (ls1 := [_]) (st1 := [_]) rfl ?_
  refine l_callI X gKt [] [0] rfl mJ1_1 (jc_J0_init z.2.1 EV (b := a)) (fun _ _ _ => trivial) rfl rfl (fun _ h => h.elim) (fun _ _ h => h) rfl rfl (Nat.le_of_ble_eq_true rfl) (gFit.of hR (Nat.le_of_ble_eq_true rfl) (Nat.le_of_ble_eq_true rfl) (Nat.le_of_ble_eq_true rfl)) (fun v9 L9 h9 => ?_)
  obtain ⟨rfl, rfl⟩ := h9
  refine l_eq (st' := []) rfl rfl ?_
  refine l_L (L' := [(a, t, .inr (1, [v0, v1, v2]))]) rfl ?_
  refine l_run X 2 (pc1 := 6) (ls1 := [_]) (st1 := [_, _]) rfl ?_
  refine l_put X gKt 0 rfl fJ1_7_1 rfl (gDb_s rfl) (rfl) rfl rfl (Nat.le_of_ble_eq_true rfl) (L' := [(a, t, .inr (1, [.int (iI 0), v1, v2]))]) rfl ?_
  exact l_vret X hQ rfl rfl (Nat.le_of_ble_eq_true rfl) (Nat.le_of_ble_eq_true rfl) ⟨rfl, rfl⟩
set_option maxHeartbeats 1000000 in
theorem jc_J1_init_2 (l : Launch) (EV : gEV) {a : Nat} {t : gTag} {v0 v1 v2 v3 : Value} : JC l yJ1_init cJ1_init 1 none 2 0 0 EV kT (tO t) [.ref a] [(a, t, .inr (2, [v0, v1, v2, v3]))] (jP none [(a, t, .inr (2, [.int (iI 0), v1, v2, v3]))]) := by
  refine l_body tbJ1_init tkJ1_init (by decide) (by intro v hv; simp only [List.mem_cons, List.not_mem_nil, or_false] at hv; rcases hv with rfl <;> rfl) (Nat.le_of_ble_eq_true rfl) (fun M0 z Q X hl hR hQ => ?_)
  subst hl
  refine l_eq (ls' := [some (.ref a)]) (st' := []) rfl rfl ?_
  refine l_run X 1 (pc1 := 1) (ls1 := [_]) (st1 := [_]) rfl ?_
  refine l_callI X gKt [] [0] rfl mJ1_1 (jc_J0_init z.2.1 EV (b := a)) (fun _ _ _ => trivial) rfl rfl (fun _ h => h.elim) (fun _ _ h => h) rfl rfl (Nat.le_of_ble_eq_true rfl) (gFit.of hR (Nat.le_of_ble_eq_true rfl) (Nat.le_of_ble_eq_true rfl) (Nat.le_of_ble_eq_true rfl)) (fun v9 L9 h9 => ?_)
  obtain ⟨rfl, rfl⟩ := h9
  refine l_eq (st' := []) rfl rfl ?_
  refine l_L (L' := [(a, t, .inr (2, [v0, v1, v2, v3]))]) rfl ?_
  refine l_run X 2 (pc1 := 6) (ls1 := [_]) (st1 := [_, _]) rfl ?_
  refine l_put X gKt 0 rfl fJ1_7_2 rfl (gDb_s rfl) (rfl) rfl rfl (Nat.le_of_ble_eq_true rfl) (L' := [(a, t, .inr (2, [.int (iI 0), v1, v2, v3]))]) rfl ?_
  exact l_vret X hQ rfl rfl (Nat.le_of_ble_eq_true rfl) (Nat.le_of_ble_eq_true rfl) ⟨rfl, rfl⟩
set_option maxHeartbeats 1000000 in
theorem jc_J6_init (l : Launch) (EV : gEV) {a : Nat} {t : gTag} {v0 v1 v2 v3 : Value} : JC l yJ6_init cJ6_init 1 none 3 0 0 EV kT (tO t) [.ref a] [(a, t, .inr (2, [v0, v1, v2, v3]))] (jP none [(a, t, .inr (2, [.int (iI 0), v1, v2, v3]))]) := by
  refine l_body tbJ6_init tkJ6_init (by decide) (by intro v hv; simp only [List.mem_cons, List.not_mem_nil, or_false] at hv; rcases hv with rfl <;> rfl) (Nat.le_of_ble_eq_true rfl) (fun M0 z Q X hl hR hQ => ?_)
  subst hl
  refine l_eq (ls' := [some (.ref a)]) (st' := []) rfl rfl ?_
  refine l_run X 1 (pc1 := 1) (ls1 := [_]) (st1 := [_]) rfl ?_
  refine l_callI X gKt [0] [] rfl mJ6_1 (jc_J1_init_2 z.2.1 EV (a := a) (t := t)) (fun _ _ _ => trivial) rfl rfl (fun _ h => h) (fun _ h => by cases h) rfl rfl (Nat.le_of_ble_eq_true rfl) (gFit.of hR (Nat.le_of_ble_eq_true rfl) (Nat.le_of_ble_eq_true rfl) (Nat.le_of_ble_eq_true rfl)) (fun v9 L9 h9 => ?_)
  obtain ⟨rfl, rfl⟩ := h9
  refine l_eq (st' := []) rfl rfl ?_
  refine l_L (L' := [(a, t, .inr (2, [.int (iI 0), v1, v2, v3]))]) rfl ?_
  exact l_vret X hQ rfl rfl (Nat.le_of_ble_eq_true rfl) (Nat.le_of_ble_eq_true rfl) ⟨rfl, rfl⟩
set_option maxHeartbeats 1000000 in
theorem jc_J2_init (l : Launch) (EV : gEV) {a : Nat} {t : gTag} {v0 v1 : Value} : JC l yJ2_init cJ2_init 1 none 3 0 0 EV kT (tO t) [.ref a] [(a, t, .inr (1, [v0, v1, .int (iI 0)]))] (jP none [(a, t, .inr (1, [.int (iI 0), .ref (EV.2.2.2 0), .int (iI 0)]))]) := by
  refine l_body tbJ2_init tkJ2_init (by decide) (by intro v hv; simp only [List.mem_cons, List.not_mem_nil, or_false] at hv; rcases hv with rfl <;> rfl) (Nat.le_of_ble_eq_true rfl) (fun M0 z Q X hl hR hQ => ?_)
  subst hl
  refine l_eq (ls' := [some (.ref a)]) (st' := []) rfl rfl ?_
  refine l_run X 1 (pc1 := 1) (ls1 := [_]) (st1 := [_]) rfl ?_
  refine l_callI X gKt [0] [] rfl mJ2_1 (jc_J1_init_1 z.2.1 EV (a := a) (t := t)) (fun _ _ _ => trivial) rfl rfl (fun _ h => h) (fun _ h => by cases h) rfl rfl (Nat.le_of_ble_eq_true rfl) (gFit.of hR (Nat.le_of_ble_eq_true rfl) (Nat.le_of_ble_eq_true rfl) (Nat.le_of_ble_eq_true rfl)) (fun v9 L9 h9 => ?_)
  obtain ⟨rfl, rfl⟩ := h9
  refine l_eq (st' := []) rfl rfl ?_
  refine l_L (L' := [(a, t, .inr (1, [.int (iI 0), v1, .int (iI 0)]))]) rfl ?_
  refine l_run X 1 (pc1 := 5) (ls1 := [_]) (st1 := [_]) rfl ?_
  refine l_gets X rfl X.stat.2.2.1 q127 (Or.inl rfl) ?_
  refine l_put X gKt 0 rfl fJ2_9 rfl (gDb_s rfl) (rfl) rfl rfl (Nat.le_of_ble_eq_true rfl) (L' := [(a, t, .inr (1, [.int (iI 0), .ref (EV.2.2.2 0), .int (iI 0)]))]) rfl ?_
  exact l_vret X hQ rfl rfl (Nat.le_of_ble_eq_true rfl) (Nat.le_of_ble_eq_true rfl) ⟨rfl, rfl⟩
set_option maxHeartbeats 1000000 in
theorem jc_J2_size (l : Launch) (EV : gEV) {a : Nat} {t : gTag} {v0 v1 : Value} {s0 : Int} : JC l yJ2_size cJ2_size 1 (some .int) 1 0 0 EV kT tF [.ref a] [(a, t, .inr (1, [v0, v1, .int (iI s0)]))] (jP (some (.int (iI s0))) [(a, t, .inr (1, [v0, v1, .int (iI s0)]))]) := by
  refine l_body tbJ2_size tkJ2_size (by decide) (by intro v hv; simp only [List.mem_cons, List.not_mem_nil, or_false] at hv; rcases hv with rfl <;> rfl) (Nat.le_of_ble_eq_true rfl) (fun M0 z Q X hl hR hQ => ?_)
  subst hl
  refine l_eq (ls' := [some (.ref a)]) (st' := []) rfl rfl ?_
  refine l_run X 1 (pc1 := 1) (ls1 := [_]) (st1 := [_]) rfl ?_
  refine l_get X 0 rfl fJ2_48 rfl rfl ?_
  exact l_iret X hQ rfl rfl (Nat.le_of_ble_eq_true rfl) (Nat.le_of_ble_eq_true rfl) ⟨rfl, rfl⟩
set_option maxHeartbeats 1000000 in
theorem jc_J20_check (l : Launch) (EV : gEV) {x y : Int} (hx : 0 ≤ x ∧ x < y) (hy : inR y) : JC l yJ20_checkIndex cJ20_checkIndex 3 (some .int) 1 0 0 EV kT tF [.int (iI x), .int (iI y), .null] [] (jP (some (.int (iI x))) []) := by
  refine l_body tbJ20_checkIndex tkJ20_checkIndex (by decide) (by intro v hv; simp only [List.mem_cons, List.not_mem_nil, or_false] at hv; rcases hv with rfl | rfl | rfl <;> rfl) (Nat.le_of_ble_eq_true rfl) (fun M0 z Q X hl hR hQ => ?_)
  subst hl
  refine l_eq (ls' := [some (.int (iI x)), some (.int (iI y)), some (.null)]) (st' := []) rfl rfl ?_
  refine l_run X 1 (pc1 := 1) (ls1 := [_, _, _]) (st1 := [_]) rfl ?_
  refine l_br X (pc1 := 9) (st1 := []) rfl (fun b9 => ?_) (fun b9 => ?_)
  · have c1 : x < 0 := cLt b9 (by omega) (by omega)
    exact absurd c1 (by omega)
  · have c1 : 0 ≤ x := cNl b9 (by omega) (by omega)
    refine l_run X 2 (pc1 := 6) (ls1 := [_, _, _]) (st1 := [_, _]) rfl ?_
    refine l_br X (pc1 := 16) (st1 := []) rfl (fun b9 => ?_) (fun b9 => ?_)
    · have c6 : x < y := cLt b9 (by omega) (by omega)
      refine l_run X 1 (pc1 := 17) (ls1 := [_, _, _]) (st1 := [_]) rfl ?_
      exact l_iret X hQ rfl rfl (Nat.le_of_ble_eq_true rfl) (Nat.le_of_ble_eq_true rfl) ⟨rfl, rfl⟩
    · have c6 : y ≤ x := cNl b9 (by omega) (by omega)
      exact absurd c6 (by omega)
set_option maxHeartbeats 1000000 in
theorem jc_J27_check (l : Launch) (EV : gEV) {x y : Int} (hx : 0 ≤ x ∧ x < y) (hy : inR y) : JC l yJ27_checkIndex cJ27_checkIndex 2 (some .int) 2 0 0 EV kT tF [.int (iI x), .int (iI y)] [] (jP (some (.int (iI x))) []) := by
  refine l_body tbJ27_checkIndex tkJ27_checkIndex (by decide) (by intro v hv; simp only [List.mem_cons, List.not_mem_nil, or_false] at hv; rcases hv with rfl | rfl <;> rfl) (Nat.le_of_ble_eq_true rfl) (fun M0 z Q X hl hR hQ => ?_)
  subst hl
  refine l_eq (ls' := [some (.int (iI x)), some (.int (iI y))]) (st' := []) rfl rfl ?_
  refine l_run X 3 (pc1 := 3) (ls1 := [_, _]) (st1 := [_, _, _]) rfl ?_
  refine l_callS X gKt [] [] rfl mJ27_105 (jc_J20_check z.2.1 EV (x := x) (y := y) (by omega) (by omega)) (fun _ _ _ => trivial) rfl rfl (fun _ h => h.elim) (fun _ _ h => h) rfl rfl (Nat.le_of_ble_eq_true rfl) (gFit.of hR (Nat.le_of_ble_eq_true rfl) (Nat.le_of_ble_eq_true rfl) (Nat.le_of_ble_eq_true rfl)) (fun v9 L9 h9 => ?_)
  obtain ⟨rfl, rfl⟩ := h9
  refine l_eq (st' := [.int (iI x)]) rfl rfl ?_
  refine l_L (L' := []) rfl ?_
  exact l_iret X hQ rfl rfl (Nat.le_of_ble_eq_true rfl) (Nat.le_of_ble_eq_true rfl) ⟨rfl, rfl⟩
set_option maxHeartbeats 1000000 in
theorem jc_J2_elementData (l : Launch) (EV : gEV) {a d : Nat} {t u : gTag} {v0 : Value} {s0 x : Int} {N y : Nat} {f : Nat → Option Nat} (hx : 0 ≤ x ∧ x < s0) (hN : s0 ≤ N ∧ N ≤ 100000) (hf : f x.toNat = some y) : JC l yJ2_elementData cJ2_elementData 2 (some (.object "java/lang/Object")) 1 0 0 EV kT tF [.ref a, .int (iI x)] [(a, t, .inr (1, [v0, .ref d, .int (iI s0)])), (d, u, .inl (EV.2.1 2, N, .inr (.inr (.inr (.inr f)))))] (jP (some (.ref y)) [(a, t, .inr (1, [v0, .ref d, .int (iI s0)])), (d, u, .inl (EV.2.1 2, N, .inr (.inr (.inr (.inr f)))))]) := by
  refine l_body tbJ2_elementData tkJ2_elementData (by decide) (by intro v hv; simp only [List.mem_cons, List.not_mem_nil, or_false] at hv; rcases hv with rfl | rfl <;> rfl) (Nat.le_of_ble_eq_true rfl) (fun M0 z Q X hl hR hQ => ?_)
  subst hl
  refine l_eq (ls' := [some (.ref a), some (.int (iI x))]) (st' := []) rfl rfl ?_
  refine l_run X 1 (pc1 := 1) (ls1 := [_, _]) (st1 := [_]) rfl ?_
  refine l_get X 0 rfl fJ2_9 rfl rfl ?_
  refine l_run X 1 (pc1 := 5) (ls1 := [_, _]) (st1 := [_, _]) rfl ?_
  refine l_aald X 1 2 (v := .ref y) rfl rfl rfl (gIx_i (by omega) (by omega)) (by rw [hf]; rfl) ?_
  exact l_aret X hQ rfl rfl (by first | exact Or.inl ⟨_, rfl⟩ | exact Or.inr ⟨_, rfl⟩) (Or.inr ⟨_, rfl⟩) (Nat.le_of_ble_eq_true rfl) (Nat.le_of_ble_eq_true rfl) ⟨rfl, rfl⟩
set_option maxHeartbeats 1000000 in
theorem jc_J2_get (l : Launch) (EV : gEV) {a d : Nat} {t u : gTag} {v0 : Value} {s0 x : Int} {N y : Nat} {f : Nat → Option Nat} (hx : 0 ≤ x ∧ x < s0) (hN : s0 ≤ N ∧ N ≤ 100000) (hf : f x.toNat = some y) : JC l yJ2_get cJ2_get 2 (some (.object "java/lang/Object")) 4 0 0 EV kT tF [.ref a, .int (iI x)] [(a, t, .inr (1, [v0, .ref d, .int (iI s0)])), (d, u, .inl (EV.2.1 2, N, .inr (.inr (.inr (.inr f)))))] (jP (some (.ref y)) [(a, t, .inr (1, [v0, .ref d, .int (iI s0)])), (d, u, .inl (EV.2.1 2, N, .inr (.inr (.inr (.inr f)))))]) := by
  refine l_body tbJ2_get tkJ2_get (by decide) (by intro v hv; simp only [List.mem_cons, List.not_mem_nil, or_false] at hv; rcases hv with rfl | rfl <;> rfl) (Nat.le_of_ble_eq_true rfl) (fun M0 z Q X hl hR hQ => ?_)
  subst hl
  refine l_eq (ls' := [some (.ref a), some (.int (iI x))]) (st' := []) rfl rfl ?_
  refine l_run X 2 (pc1 := 2) (ls1 := [_, _]) (st1 := [_, _]) rfl ?_
  refine l_get X 0 rfl fJ2_48 rfl rfl ?_
  refine l_callS X gKt [] [0, 1] rfl mJ2_118 (jc_J27_check z.2.1 EV (x := x) (y := s0) (by omega) (by omega)) (fun _ _ _ => trivial) rfl rfl (fun _ h => h.elim) (fun _ _ h => h) rfl rfl (Nat.le_of_ble_eq_true rfl) (gFit.of hR (Nat.le_of_ble_eq_true rfl) (Nat.le_of_ble_eq_true rfl) (Nat.le_of_ble_eq_true rfl)) (fun v9 L9 h9 => ?_)
  obtain ⟨rfl, rfl⟩ := h9
  refine l_eq (st' := [.int (iI x)]) rfl rfl ?_
  refine l_L (L' := [(a, t, .inr (1, [v0, .ref d, .int (iI s0)])), (d, u, .inl (EV.2.1 2, N, .inr (.inr (.inr (.inr f)))))]) rfl ?_
  refine l_run X 3 (pc1 := 11) (ls1 := [_, _]) (st1 := [_, _]) rfl ?_
  refine l_callV X gKt [0, 1] [] 0 rfl mJ2_123 (jc_J2_elementData z.2.1 EV hx hN hf) rfl (fun _ _ _ => trivial) rfl rfl (fun _ h => h.elim) (fun _ h => by cases h) rfl rfl (Nat.le_of_ble_eq_true rfl) (gFit.of hR (Nat.le_of_ble_eq_true rfl) (Nat.le_of_ble_eq_true rfl) (Nat.le_of_ble_eq_true rfl)) (fun v9 L9 h9 => ?_)
  obtain ⟨rfl, rfl⟩ := h9
  refine l_eq (st' := [.ref y]) rfl rfl ?_
  refine l_L (L' := [(a, t, .inr (1, [v0, .ref d, .int (iI s0)])), (d, u, .inl (EV.2.1 2, N, .inr (.inr (.inr (.inr f)))))]) rfl ?_
  exact l_aret X hQ rfl rfl (by first | exact Or.inl ⟨_, rfl⟩ | exact Or.inr ⟨_, rfl⟩) (Or.inr ⟨_, rfl⟩) (Nat.le_of_ble_eq_true rfl) (Nat.le_of_ble_eq_true rfl) ⟨rfl, rfl⟩
set_option maxHeartbeats 1000000 in
theorem jc_J35_init (l : Launch) (EV : gEV) {a q : Nat} {t u : gTag} (htu : u ≠ t) {m : Int} {v1 v2 w1 w2 w3 : Value} : JC l yJ35_init cJ35_init 2 none 2 0 0 EV kT (tO u) [.ref q, .ref a] [(q, u, .inr (14, [.int (iI 0), w1, w2, w3])), (a, t, .inr (1, [.int (iI m), v1, v2]))] (jP none [(q, u, .inr (14, [.int (iI 0), .int (iI (-1)), .int (iI m), .ref a])), (a, t, .inr (1, [.int (iI m), v1, v2]))]) := by
  refine l_body tbJ35_init tkJ35_init (by decide) (by intro v hv; simp only [List.mem_cons, List.not_mem_nil, or_false] at hv; rcases hv with rfl | rfl <;> rfl) (Nat.le_of_ble_eq_true rfl) (fun M0 z Q X hl hR hQ => ?_)
  subst hl
  refine l_eq (ls' := [some (.ref q), some (.ref a)]) (st' := []) rfl rfl ?_
  refine l_run X 2 (pc1 := 2) (ls1 := [_, _]) (st1 := [_, _]) rfl ?_
  refine l_putF X gKt 0 rfl rfl fJ35_1 rfl (gDp2 htu) (rfl) rfl rfl (Nat.le_of_ble_eq_true rfl) (L' := [(q, u, .inr (14, [.int (iI 0), w1, w2, .ref a])), (a, t, .inr (1, [.int (iI m), v1, v2]))]) rfl ?_
  refine l_run X 1 (pc1 := 6) (ls1 := [_, _]) (st1 := [_]) rfl ?_
  refine l_oinit X rfl q1829 ⟨by rw [hR]; exact Nat.le_of_ble_eq_true rfl, by rw [hR]; exact Nat.le_of_ble_eq_true rfl⟩ (Nat.le_of_ble_eq_true rfl) ?_
  refine l_run X 2 (pc1 := 11) (ls1 := [_, _]) (st1 := [_, _]) rfl ?_
  refine l_put X gKt 0 rfl fJ35_13 rfl (gDp2 htu) (rfl) rfl rfl (Nat.le_of_ble_eq_true rfl) (L' := [(q, u, .inr (14, [.int (iI 0), .int (iI (-1)), w2, .ref a])), (a, t, .inr (1, [.int (iI m), v1, v2]))]) rfl ?_
  refine l_run X 2 (pc1 := 16) (ls1 := [_, _]) (st1 := [_, _]) rfl ?_
  refine l_get X 0 rfl fJ35_1 rfl rfl ?_
  refine l_get X 1 rfl fJ35_17_1 rfl rfl ?_
  refine l_put X gKt 0 rfl fJ35_22 rfl (gDp2 htu) (rfl) rfl rfl (Nat.le_of_ble_eq_true rfl) (L' := [(q, u, .inr (14, [.int (iI 0), .int (iI (-1)), .int (iI m), .ref a])), (a, t, .inr (1, [.int (iI m), v1, v2]))]) rfl ?_
  exact l_vret X hQ rfl rfl (Nat.le_of_ble_eq_true rfl) (Nat.le_of_ble_eq_true rfl) ⟨rfl, rfl⟩
set_option maxHeartbeats 1000000 in
theorem jc_J2_iterator (l : Launch) (EV : gEV) {a : Nat} {t : gTag} (u : gTag) (htu : u ≠ t) {m : Int} {v1 v2 : Value} : JC l yJ2_iterator cJ2_iterator 1 (some (.object "java/util/Iterator")) 4 1 4 EV kT (tO u) [.ref a] [(a, t, .inr (1, [.int (iI m), v1, v2]))] (fun w L9 => ∃ q : Nat, w = some (.ref q) ∧ L9 = [(q, u, .inr (14, [.int (iI 0), .int (iI (-1)), .int (iI m), .ref a])), (a, t, .inr (1, [.int (iI m), v1, v2]))]) := by
  refine l_body tbJ2_iterator tkJ2_iterator (by decide) (by intro v hv; simp only [List.mem_cons, List.not_mem_nil, or_false] at hv; rcases hv with rfl <;> rfl) (Nat.le_of_ble_eq_true rfl) (fun M0 z Q X hl hR hQ => ?_)
  subst hl
  refine l_eq (ls' := [some (.ref a)]) (st' := []) rfl rfl ?_
  refine l_new X gKt u rfl nJ2_267 (rc hR (Nat.le_of_ble_eq_true rfl)) (rs hR (Nat.le_of_ble_eq_true rfl)) (fun q1 => ?_)
  refine l_L (L' := [(a, t, .inr (1, [.int (iI m), v1, v2])), (q1, u, .inr (14, [.int (iI 0), .int (iI 0), .int (iI 0), .null]))]) rfl ?_
  refine l_run X 2 (pc1 := 5) (ls1 := [_]) (st1 := [_, _, _]) rfl ?_
  refine l_callI X gKt [1, 0] [] rfl mJ2_269 (jc_J35_init z.2.1 EV htu) (fun _ _ _ => trivial) rfl rfl (fun _ h => h) (fun _ h => by cases h) rfl rfl (Nat.le_of_ble_eq_true rfl) (gFit.of hR (Nat.le_of_ble_eq_true rfl) (Nat.le_of_ble_eq_true rfl) (Nat.le_of_ble_eq_true rfl)) (fun v9 L9 h9 => ?_)
  obtain ⟨rfl, rfl⟩ := h9
  refine l_eq (st' := [.ref q1]) rfl rfl ?_
  refine l_L (L' := [(q1, u, .inr (14, [.int (iI 0), .int (iI (-1)), .int (iI m), .ref a])), (a, t, .inr (1, [.int (iI m), v1, v2]))]) rfl ?_
  exact l_aret X hQ rfl rfl (Or.inl ⟨_, rfl⟩) (Or.inr ⟨_, rfl⟩) (Nat.le_of_ble_eq_true rfl) (Nat.le_of_ble_eq_true rfl) ⟨q1, rfl, rfl⟩
set_option maxHeartbeats 1000000 in
theorem jc_J35_check (l : Launch) (EV : gEV) {a q : Nat} {t u : gTag} {c0 l0 m : Int} (hm : inR m) {v1 v2 : Value} : JC l yJ35_checkForComodification cJ35_checkForComodification 1 none 1 0 0 EV kT tF [.ref q] [(q, u, .inr (14, [.int (iI c0), .int (iI l0), .int (iI m), .ref a])), (a, t, .inr (1, [.int (iI m), v1, v2]))] (jP none [(q, u, .inr (14, [.int (iI c0), .int (iI l0), .int (iI m), .ref a])), (a, t, .inr (1, [.int (iI m), v1, v2]))]) := by
  refine l_body tbJ35_checkForComodification tkJ35_checkForComodification (by decide) (by intro v hv; simp only [List.mem_cons, List.not_mem_nil, or_false] at hv; rcases hv with rfl <;> rfl) (Nat.le_of_ble_eq_true rfl) (fun M0 z Q X hl hR hQ => ?_)
  subst hl
  refine l_eq (ls' := [some (.ref q)]) (st' := []) rfl rfl ?_
  refine l_run X 1 (pc1 := 1) (ls1 := [_]) (st1 := [_]) rfl ?_
  refine l_get X 0 rfl fJ35_1 rfl rfl ?_
  refine l_get X 1 rfl fJ35_17_1 rfl rfl ?_
  refine l_run X 1 (pc1 := 8) (ls1 := [_]) (st1 := [_, _]) rfl ?_
  refine l_get X 0 rfl fJ35_22 rfl rfl ?_
  refine l_br X (pc1 := 22) (st1 := []) rfl (fun b9 => ?_) (fun b9 => ?_)
  · have c11 : m = m := cEq b9 (by omega) (by omega)
    exact l_vret X hQ rfl rfl (Nat.le_of_ble_eq_true rfl) (Nat.le_of_ble_eq_true rfl) ⟨rfl, rfl⟩
  · have c11 : ¬ m = m := cNq b9 (by omega) (by omega)
    exact absurd rfl c11
set_option maxHeartbeats 1000000 in
theorem jc_J35_hasNext (l : Launch) (EV : gEV) {a q : Nat} {t u : gTag} {c0 l0 m s0 : Int} (hc : inR c0) (hs : inR s0) {v0 v1 : Value} : JC l yJ35_hasNext cJ35_hasNext 1 (some .boolean) 1 0 0 EV kT tF [.ref q] [(q, u, .inr (14, [.int (iI c0), .int (iI l0), .int (iI m), .ref a])), (a, t, .inr (1, [v0, v1, .int (iI s0)]))] (jP (some (.int (iI (bI (¬ c0 = s0))))) [(q, u, .inr (14, [.int (iI c0), .int (iI l0), .int (iI m), .ref a])), (a, t, .inr (1, [v0, v1, .int (iI s0)]))]) := by
  refine l_body tbJ35_hasNext tkJ35_hasNext (by decide) (by intro v hv; simp only [List.mem_cons, List.not_mem_nil, or_false] at hv; rcases hv with rfl <;> rfl) (Nat.le_of_ble_eq_true rfl) (fun M0 z Q X hl hR hQ => ?_)
  subst hl
  refine l_eq (ls' := [some (.ref q)]) (st' := []) rfl rfl ?_
  refine l_run X 1 (pc1 := 1) (ls1 := [_]) (st1 := [_]) rfl ?_
  refine l_get X 0 rfl fJ35_25 rfl rfl ?_
  refine l_run X 1 (pc1 := 5) (ls1 := [_]) (st1 := [_, _]) rfl ?_
  refine l_get X 0 rfl fJ35_1 rfl rfl ?_
  refine l_get X 1 rfl fJ35_28 rfl rfl ?_
  refine l_br X (pc1 := 18) (st1 := []) rfl (fun b9 => ?_) (fun b9 => ?_)
  · have c11 : c0 = s0 := cEq b9 (by omega) (by omega)
    refine l_run X 1 (pc1 := 19) (ls1 := [_]) (st1 := [_]) rfl ?_
    exact l_zret X hQ rfl rfl rfl (Nat.le_refl _) (Nat.le_refl _) ⟨by rw [bI_0 (by omega)], rfl⟩
  · have c11 : ¬ c0 = s0 := cNq b9 (by omega) (by omega)
    refine l_run X 2 (pc1 := 19) (ls1 := [_]) (st1 := [_]) rfl ?_
    exact l_zret X hQ rfl rfl rfl (Nat.le_refl _) (Nat.le_refl _) ⟨by rw [bI_1 (by omega)], rfl⟩
set_option maxHeartbeats 1000000 in
theorem jc_J35_next (l : Launch) (EV : gEV) {a q d y N : Nat} {t u p : gTag} (hut : u ≠ t) (hup : u ≠ p) (htp : t ≠ p) {c0 l0 m s0 : Int} (hm : inR m) (hc : 0 ≤ c0 ∧ c0 < s0) (hN : s0 ≤ N ∧ N ≤ 100000) {f : Nat → Option Nat} (hf : f c0.toNat = some y) : JC l yJ35_next cJ35_next 3 (some (.object "java/lang/Object")) 2 0 0 EV kT (tO u) [.ref q] [(q, u, .inr (14, [.int (iI c0), .int (iI l0), .int (iI m), .ref a])), (a, t, .inr (1, [.int (iI m), .ref d, .int (iI s0)])), (d, p, .inl (EV.2.1 2, N, .inr (.inr (.inr (.inr f)))))] (jP (some (.ref y)) [(q, u, .inr (14, [.int (iI (c0 + 1)), .int (iI c0), .int (iI m), .ref a])), (a, t, .inr (1, [.int (iI m), .ref d, .int (iI s0)])), (d, p, .inl (EV.2.1 2, N, .inr (.inr (.inr (.inr f)))))]) := by
  refine l_body tbJ35_next tkJ35_next (by decide) (by intro v hv; simp only [List.mem_cons, List.not_mem_nil, or_false] at hv; rcases hv with rfl <;> rfl) (Nat.le_of_ble_eq_true rfl) (fun M0 z Q X hl hR hQ => ?_)
  subst hl
  refine l_eq (ls' := [some (.ref q), none, none]) (st' := []) rfl rfl ?_
  refine l_run X 1 (pc1 := 1) (ls1 := [_, _, _]) (st1 := [_]) rfl ?_
  refine l_callV X gKt [0, 1] [2] 0 rfl mJ35_31 (jc_J35_check z.2.1 EV hm) rfl (fun _ _ _ => trivial) rfl rfl (fun _ h => h.elim) (fun _ _ h => h) rfl rfl (Nat.le_of_ble_eq_true rfl) (gFit.of hR (Nat.le_of_ble_eq_true rfl) (Nat.le_of_ble_eq_true rfl) (Nat.le_of_ble_eq_true rfl)) (fun v9 L9 h9 => ?_)
  obtain ⟨rfl, rfl⟩ := h9
  refine l_eq (st' := []) rfl rfl ?_
  refine l_L (L' := [(q, u, .inr (14, [.int (iI c0), .int (iI l0), .int (iI m), .ref a])), (a, t, .inr (1, [.int (iI m), .ref d, .int (iI s0)])), (d, p, .inl (EV.2.1 2, N, .inr (.inr (.inr (.inr f)))))]) rfl ?_
  refine l_run X 1 (pc1 := 5) (ls1 := [_, _, _]) (st1 := [_]) rfl ?_
  refine l_get X 0 rfl fJ35_25 rfl rfl ?_
  refine l_run X 3 (pc1 := 11) (ls1 := [_, _, _]) (st1 := [_, _]) rfl ?_
  refine l_get X 0 rfl fJ35_1 rfl rfl ?_
  refine l_get X 1 rfl fJ35_28 rfl rfl ?_
  refine l_br X (pc1 := 28) (st1 := []) rfl (fun b9 => ?_) (fun b9 => ?_)
  · have c17 : c0 < s0 := cLt b9 (by omega) (by omega)
    refine l_run X 1 (pc1 := 29) (ls1 := [_, _, _]) (st1 := [_]) rfl ?_
    refine l_get X 0 rfl fJ35_1 rfl rfl ?_
    refine l_get X 1 rfl fJ35_37 rfl rfl ?_
    refine l_run X 3 (pc1 := 38) (ls1 := [_, _, _]) (st1 := [_, _]) rfl ?_
    refine l_alen X 2 2 rfl rfl rfl (iI_ofNat N) ?_
    refine l_br X (pc1 := 50) (st1 := []) rfl (fun b9 => ?_) (fun b9 => ?_)
    · have c39 : c0 < ((N : Nat) : Int) := cLt b9 (by omega) (by omega)
      refine l_run X 4 (pc1 := 54) (ls1 := [_, _, _]) (st1 := [_, _]) rfl ?_
      refine l_eq (ls' := [some (.ref q), some (.int (iI c0)), some (.ref d)]) (st' := [.int (iI (c0 + 1)), .ref q]) (by simp only [iI_add, iI_sub, iI_mul, iI_neg]) (by simp only [iI_add, iI_sub, iI_mul, iI_neg]) ?_
      refine l_put X gKt 0 rfl fJ35_25 rfl (gDp3 hut hup htp) (rfl) rfl rfl (Nat.le_of_ble_eq_true rfl) (L' := [(q, u, .inr (14, [.int (iI (c0 + 1)), .int (iI l0), .int (iI m), .ref a])), (a, t, .inr (1, [.int (iI m), .ref d, .int (iI s0)])), (d, p, .inl (EV.2.1 2, N, .inr (.inr (.inr (.inr f)))))]) rfl ?_
      refine l_run X 4 (pc1 := 61) (ls1 := [_, _, _]) (st1 := [_, _, _, _]) rfl ?_
      refine l_put X gKt 0 rfl fJ35_13 rfl (gDp3 hut hup htp) (rfl) rfl rfl (Nat.le_of_ble_eq_true rfl) (L' := [(q, u, .inr (14, [.int (iI (c0 + 1)), .int (iI c0), .int (iI m), .ref a])), (a, t, .inr (1, [.int (iI m), .ref d, .int (iI s0)])), (d, p, .inl (EV.2.1 2, N, .inr (.inr (.inr (.inr f)))))]) rfl ?_
      refine l_aald X 2 2 (v := .ref y) rfl rfl rfl (gIx_i (by omega) (by omega)) (by rw [hf]; rfl) ?_
      exact l_aret X hQ rfl rfl (by first | exact Or.inl ⟨_, rfl⟩ | exact Or.inr ⟨_, rfl⟩) (Or.inr ⟨_, rfl⟩) (Nat.le_of_ble_eq_true rfl) (Nat.le_of_ble_eq_true rfl) ⟨rfl, rfl⟩
    · have c39 : ((N : Nat) : Int) ≤ c0 := cNl b9 (by omega) (by omega)
      exact absurd c39 (by omega)
  · have c17 : s0 ≤ c0 := cNl b9 (by omega) (by omega)
    exact absurd c17 (by omega)
set_option maxHeartbeats 1000000 in
theorem jc_J8_newLength (l : Launch) (EV : gEV) {o g p : Int} (ho : 0 ≤ o ∧ o ≤ 1000) (hg : 0 ≤ g ∧ g ≤ 1000) (hp : 0 ≤ p ∧ p ≤ 1000) (hs : 0 < o + (if g < p then p else g)) : JC l yJ8_newLength cJ8_newLength 4 (some .int) 2 0 0 EV kT tF [.int (iI o), .int (iI g), .int (iI p)] [] (jP (some (.int (iI (o + (if g < p then p else g))))) []) := by
  refine l_body tbJ8_newLength tkJ8_newLength (by decide) (by intro v hv; simp only [List.mem_cons, List.not_mem_nil, or_false] at hv; rcases hv with rfl | rfl | rfl <;> rfl) (Nat.le_of_ble_eq_true rfl) (fun M0 z Q X hl hR hQ => ?_)
  subst hl
  have hr : 0 ≤ (if g < p then p else g) ∧ (if g < p then p else g) ≤ 1000 := by split <;> omega
  have h0 : 0 < o + (if g < p then p else g) := hs
  refine l_eq (ls' := [some (.int (iI o)), some (.int (iI g)), some (.int (iI p)), none]) (st' := []) rfl rfl ?_
  refine l_run X 3 (pc1 := 3) (ls1 := [_, _, _, _]) (st1 := [_, _, _]) rfl ?_
  refine l_max X rfl q241 hR (Nat.le_of_ble_eq_true rfl) (Nat.le_of_ble_eq_true rfl) (Nat.le_of_ble_eq_true rfl) (by omega) (by omega) ?_
  refine l_run X 4 (pc1 := 10) (ls1 := [_, _, _, _]) (st1 := [_, _]) rfl ?_
  refine l_eq (ls' := [some (.int (iI o)), some (.int (iI g)), some (.int (iI p)), some (.int (iI (o + (if g < p then p else g))))]) (st' := [.int (iI (o + (if g < p then p else g))), .int (iI 0)]) (by simp only [iI_add, iI_sub, iI_mul, iI_neg]) (by simp only [iI_add, iI_sub, iI_mul, iI_neg]) ?_
  refine l_br X (pc1 := 21) (st1 := []) rfl (fun b9 => ?_) (fun b9 => ?_)
  · have c10 : (o + (if g < p then p else g)) ≤ 0 := cLe b9 (by omega) (by omega)
    exact absurd c10 (by omega)
  · have c10 : 0 < (o + (if g < p then p else g)) := cNe b9 (by omega) (by omega)
    refine l_run X 1 (pc1 := 14) (ls1 := [_, _, _, _]) (st1 := [_]) rfl ?_
    refine l_ldcI X rfl q244 ?_
    refine l_eq (st' := [.int (iI 2147483639), .int (iI (o + (if g < p then p else g)))]) rfl rfl ?_
    refine l_br X (pc1 := 21) (st1 := []) rfl (fun b9 => ?_) (fun b9 => ?_)
    · have c16 : 2147483639 < (o + (if g < p then p else g)) := cLt b9 (by omega) (by omega)
      exact absurd c16 (by omega)
    · have c16 : (o + (if g < p then p else g)) ≤ 2147483639 := cNl b9 (by omega) (by omega)
      refine l_run X 1 (pc1 := 20) (ls1 := [_, _, _, _]) (st1 := [_]) rfl ?_
      exact l_iret X hQ rfl rfl (Nat.le_of_ble_eq_true rfl) (Nat.le_of_ble_eq_true rfl) ⟨rfl, rfl⟩
set_option maxHeartbeats 1000000 in
theorem jc_copyOf_2 (l : Launch) (EV : gEV) {a : Nat} {t u : gTag} (htu : t ≠ u) (hu : 30 ≤ u.1) {N : Nat} {m1 : Int} (hm : (N : Int) ≤ m1 ∧ m1 ≤ 1000) {f : Nat → Option Nat} : JC l yJ10_copyOf_2 cJ10_copyOf_2 4 (some (.array (.object "java/lang/Object"))) 2 1 1000 EV (kOb f) (tO u) [.ref a, .int (iI m1), .ref (EV.2.2.2 1)] [(a, t, .inl (EV.2.1 2, N, .inr (.inr (.inr (.inr (f))))))] (fun w L9 => ∃ q : Nat, w = some (.ref q) ∧ L9 = [(a, t, .inl (EV.2.1 2, N, .inr (.inr (.inr (.inr (f)))))), (q, u, .inl (EV.2.1 2, m1.toNat, .inr (.inr (.inr (.inr (fun j => if j < N then f j else none))))))]) := by
  refine l_body tbJ10_copyOf_2 tkJ10_copyOf_2 (by decide) (by intro v hv; simp only [List.mem_cons, List.not_mem_nil, or_false] at hv; rcases hv with rfl | rfl | rfl <;> rfl) (Nat.le_of_ble_eq_true rfl) (fun M0 z Q X hl hR hQ => ?_)
  subst hl
  have hK : gKT (kOb f) (tO u) := kOb_T (fun x hx => by rw [hx]; exact hu)
  refine l_eq (ls' := [some (.ref a), some (.int (iI m1)), some (.ref (EV.2.2.2 1)), none]) (st' := []) rfl rfl ?_
  refine l_run X 1 (pc1 := 1) (ls1 := [_, _, _, _]) (st1 := [_]) rfl ?_
  refine l_ldcM X rfl q297 ?_
  refine l_acmpN X (some (EV.2.2.2 1)) (some (EV.2.2.2 1)) (tgt := 13) rfl rfl rfl (fun h => absurd rfl h) (fun _ => ?_)
  refine l_run X 1 (pc1 := 7) (ls1 := [_, _, _, _]) (st1 := [_]) rfl ?_
  refine l_newq X hK u 2 (N := m1.toNat) rfl q299 (by decide) rfl (iI_n0 (by omega) (by omega)) (iI_c (by omega) (by omega)) (by omega) (rc hR (by omega)) (rs hR (by omega)) (fun q1 => ?_)
  refine l_L (L' := [(a, t, .inl (EV.2.1 2, N, .inr (.inr (.inr (.inr (f)))))), (q1, u, .inl (EV.2.1 2, m1.toNat, .inr (.inr (.inr (.inr (fun _ => none))))))]) rfl ?_
  refine l_run X 7 (pc1 := 30) (ls1 := [_, _, _, _]) (st1 := [_, _, _, _, _]) rfl ?_
  refine l_alen X 0 2 rfl rfl rfl (iI_ofNat N) ?_
  refine l_run X 1 (pc1 := 32) (ls1 := [_, _, _, _]) (st1 := [_, _, _, _, _, _]) rfl ?_
  refine l_min X rfl q300 hR (Nat.le_of_ble_eq_true rfl) (Nat.le_of_ble_eq_true rfl) (by omega) (by omega) (by omega) ?_
  rw [show (if m1 < ((N : Nat) : Int) then m1 else ((N : Nat) : Int)) = ((N : Nat) : Int) by rw [if_neg (by omega)]]
  refine l_copyQ X hK 0 1 rfl ⟨q303, q305, q304, q61⟩ rfl rfl (by decide) (by decide) (iI_n0 (by omega) (by omega)) (by rw [iI_c (z := ((N : Nat) : Int)) (by omega) (by omega)]; show 0 + _ ≤ _; omega) (by rw [iI_c (z := ((N : Nat) : Int)) (by omega) (by omega)]; show 0 + _ ≤ _; omega) (fun M h => h) (gDp2 htu) rfl ⟨by rw [hR]; exact Nat.le_of_ble_eq_true rfl, by rw [hR]; exact Nat.le_of_ble_eq_true rfl⟩ (Nat.le_of_ble_eq_true rfl) (L' := [(a, t, .inl (EV.2.1 2, N, .inr (.inr (.inr (.inr (f)))))), (q1, u, .inl (EV.2.1 2, m1.toNat, .inr (.inr (.inr (.inr (fun j => if j < N then f j else none))))))]) (by rw [cpy0 (by omega)]; rfl) ?_
  refine l_run X 1 (pc1 := 39) (ls1 := [_, _, _, _]) (st1 := [_]) rfl ?_
  exact l_aret X hQ rfl rfl (by first | exact Or.inl ⟨_, rfl⟩ | exact Or.inr ⟨_, rfl⟩) (Or.inr ⟨_, rfl⟩) (by first | exact Nat.le_of_ble_eq_true rfl | omega) (by first | exact Nat.le_of_ble_eq_true rfl | omega) ⟨_, rfl, rfl⟩
set_option maxHeartbeats 1000000 in
theorem jc_copyOf (l : Launch) (EV : gEV) {a : Nat} {t u : gTag} (htu : t ≠ u) (hu : 30 ≤ u.1) {N : Nat} {m1 : Int} (hm : (N : Int) ≤ m1 ∧ m1 ≤ 1000) {f : Nat → Option Nat} : JC l yJ10_copyOf cJ10_copyOf 2 (some (.array (.object "java/lang/Object"))) 3 1 1000 EV (kOb f) (tO u) [.ref a, .int (iI m1)] [(a, t, .inl (EV.2.1 2, N, .inr (.inr (.inr (.inr (f))))))] (fun w L9 => ∃ q : Nat, w = some (.ref q) ∧ L9 = [(a, t, .inl (EV.2.1 2, N, .inr (.inr (.inr (.inr (f)))))), (q, u, .inl (EV.2.1 2, m1.toNat, .inr (.inr (.inr (.inr (fun j => if j < N then f j else none))))))]) := by
  refine l_body tbJ10_copyOf tkJ10_copyOf (by decide) (by intro v hv; simp only [List.mem_cons, List.not_mem_nil, or_false] at hv; rcases hv with rfl | rfl <;> rfl) (Nat.le_of_ble_eq_true rfl) (fun M0 z Q X hl hR hQ => ?_)
  subst hl
  have hK : gKT (kOb f) (tO u) := kOb_T (fun x hx => by rw [hx]; exact hu)
  refine l_eq (ls' := [some (.ref a), some (.int (iI m1))]) (st' := []) rfl rfl ?_
  refine l_run X 3 (pc1 := 3) (ls1 := [_, _]) (st1 := [_, _, _]) rfl ?_
  refine l_getC X 0 rfl q251 q2736 q2735 q252 q293 rfl ⟨by rw [hR]; exact Nat.le_of_ble_eq_true rfl, by rw [hR]; exact Nat.le_of_ble_eq_true rfl⟩ (Nat.le_of_ble_eq_true rfl) ?_
  refine l_callS X hK [0] [] rfl mJ10_300 (jc_copyOf_2 z.2.1 EV (u := u) htu hu (m1 := m1) (by omega)) (fun _ h _ => h) rfl rfl (fun _ h => h) (fun _ h => by cases h) rfl rfl (Nat.le_of_ble_eq_true rfl) (gFit.of hR (Nat.le_of_ble_eq_true rfl) (Nat.le_of_ble_eq_true rfl) (Nat.le_of_ble_eq_true rfl)) (fun v9 L9 h9 => ?_)
  obtain ⟨q1, rfl, rfl⟩ := h9
  refine l_eq (st' := [.ref q1]) rfl rfl ?_
  refine l_L (L' := [(a, t, .inl (EV.2.1 2, N, .inr (.inr (.inr (.inr (f)))))), (q1, u, .inl (EV.2.1 2, m1.toNat, .inr (.inr (.inr (.inr (fun j => if j < N then f j else none))))))]) rfl ?_
  exact l_aret X hQ rfl rfl (by first | exact Or.inl ⟨_, rfl⟩ | exact Or.inr ⟨_, rfl⟩) (Or.inr ⟨_, rfl⟩) (by first | exact Nat.le_of_ble_eq_true rfl | omega) (by first | exact Nat.le_of_ble_eq_true rfl | omega) ⟨_, rfl, rfl⟩
set_option maxHeartbeats 1000000 in
theorem jc_grow_2C (l : Launch) (EV : gEV) {a d : Nat} {t u w : gTag} (htu : t ≠ u) (htw : t ≠ w) (huw : u ≠ w) (ht : 30 ≤ t.1) (hw : 30 ≤ w.1) {m : Int} {N : Nat} (hN : 0 < N ∧ N ≤ 72) {f : Nat → Option Nat} : JC l yJ2_grow_2 cJ2_grow_2 4 (some (.array (.object "java/lang/Object"))) 5 1 1000 EV (kOb f) (tO2 t w) [.ref a, .int (iI (((N : Nat) : Int) + 1))] [(a, t, .inr (1, [.int (iI m), .ref d, .int (iI ((N : Nat) : Int))])), (d, u, .inl (EV.2.1 2, N, .inr (.inr (.inr (.inr (f))))))] (fun v9 L9 => ∃ q N9 : Nat, v9 = some (.ref q) ∧ N + (N / 2 - 1) < N9 ∧ N9 ≤ 108 ∧ L9 = [(q, w, .inl (EV.2.1 2, N9, .inr (.inr (.inr (.inr (fun j => if j < N then f j else none)))))), (a, t, .inr (1, [.int (iI m), .ref q, .int (iI ((N : Nat) : Int))]))]) := by
  refine l_body tbJ2_grow_2 tkJ2_grow_2 (by decide) (by intro v hv; simp only [List.mem_cons, List.not_mem_nil, or_false] at hv; rcases hv with rfl | rfl <;> rfl) (Nat.le_of_ble_eq_true rfl) (fun M0 z Q X hl hR hQ => ?_)
  subst hl
  have hK : gKT (kOb f) (tO2 t w) := kOb_T (fun x hx => by rcases hx with hx | hx <;> rw [hx] <;> assumption)
  have hr : ((N : Nat) : Int) / 2 ≤ (if (((N : Nat) : Int) + 1) - ((N : Nat) : Int) < ((N : Nat) : Int) / 2 then ((N : Nat) : Int) / 2 else (((N : Nat) : Int) + 1) - ((N : Nat) : Int)) ∧ 0 < (if (((N : Nat) : Int) + 1) - ((N : Nat) : Int) < ((N : Nat) : Int) / 2 then ((N : Nat) : Int) / 2 else (((N : Nat) : Int) + 1) - ((N : Nat) : Int)) ∧ (if (((N : Nat) : Int) + 1) - ((N : Nat) : Int) < ((N : Nat) : Int) / 2 then ((N : Nat) : Int) / 2 else (((N : Nat) : Int) + 1) - ((N : Nat) : Int)) ≤ 36 := by split <;> omega
  refine l_eq (ls' := [some (.ref a), some (.int (iI (((N : Nat) : Int) + 1))), none, none]) (st' := []) rfl rfl ?_
  refine l_run X 1 (pc1 := 1) (ls1 := [_, _, _, _]) (st1 := [_]) rfl ?_
  refine l_get X 0 rfl fJ2_9 rfl rfl ?_
  refine l_alen X 1 2 rfl rfl rfl (iI_ofNat N) ?_
  refine l_run X 2 (pc1 := 7) (ls1 := [_, _, _, _]) (st1 := [_]) rfl ?_
  refine l_br X (pc1 := 20) (st1 := []) rfl (fun b9 => ?_) (fun b9 => ?_)
  · have c7 : 0 < ((N : Nat) : Int) := cLt b9 (by omega) (by omega)
    refine l_run X 6 (pc1 := 26) (ls1 := [_, _, _, _]) (st1 := [_, _, _, _]) rfl ?_
    refine l_eq (ls' := [some (.ref a), some (.int (iI (((N : Nat) : Int) + 1))), some (.int (iI ((N : Nat) : Int))), none]) (st' := [.int (iI 1), .int (iI ((N : Nat) : Int)), .int (iI ((((N : Nat) : Int) + 1) - ((N : Nat) : Int))), .int (iI ((N : Nat) : Int))]) (by simp only [iI_add, iI_sub, iI_mul, iI_neg]) (by simp only [iI_add, iI_sub, iI_mul, iI_neg]) ?_
    refine l_run X 1 (pc1 := 27) (ls1 := [_, _, _, _]) (st1 := [_, _, _]) rfl ?_
    refine l_eq (ls' := [some (.ref a), some (.int (iI (((N : Nat) : Int) + 1))), some (.int (iI ((N : Nat) : Int))), none]) (st' := [.int (iI ((((N : Nat) : Int)) / 2)), .int (iI ((((N : Nat) : Int) + 1) - ((N : Nat) : Int))), .int (iI ((N : Nat) : Int))]) rfl (by rw [shr1 (by omega)]) ?_
    refine l_callS X hK [] [0, 1] rfl mJ2_73 (jc_J8_newLength z.2.1 EV (o := ((N : Nat) : Int)) (g := ((((N : Nat) : Int) + 1) - ((N : Nat) : Int))) (p := ((((N : Nat) : Int)) / 2)) (by omega) (by omega) (by omega) (by omega)) (fun _ _ _ => trivial) rfl rfl (fun _ h => h.elim) (fun _ _ h => h) rfl rfl (Nat.le_of_ble_eq_true rfl) (gFit.of hR (Nat.le_of_ble_eq_true rfl) (Nat.le_of_ble_eq_true rfl) (Nat.le_of_ble_eq_true rfl)) (fun v9 L9 h9 => ?_)
    obtain ⟨rfl, rfl⟩ := h9
    refine l_eq (st' := [.int (iI (((N : Nat) : Int) + (if ((((N : Nat) : Int) + 1) - ((N : Nat) : Int)) < ((((N : Nat) : Int)) / 2) then ((((N : Nat) : Int)) / 2) else ((((N : Nat) : Int) + 1) - ((N : Nat) : Int)))))]) rfl rfl ?_
    refine l_L (L' := [(a, t, .inr (1, [.int (iI m), .ref d, .int (iI ((N : Nat) : Int))])), (d, u, .inl (EV.2.1 2, N, .inr (.inr (.inr (.inr (f))))))]) rfl ?_
    refine l_run X 3 (pc1 := 33) (ls1 := [_, _, _, _]) (st1 := [_, _]) rfl ?_
    refine l_get X 0 rfl fJ2_9 rfl rfl ?_
    refine l_run X 1 (pc1 := 37) (ls1 := [_, _, _, _]) (st1 := [_, _, _]) rfl ?_
    refine l_callS X hK [1] [0] rfl mJ2_66 (jc_copyOf z.2.1 EV (u := w) huw hw (m1 := (((N : Nat) : Int) + (if ((((N : Nat) : Int) + 1) - ((N : Nat) : Int)) < ((((N : Nat) : Int)) / 2) then ((((N : Nat) : Int)) / 2) else ((((N : Nat) : Int) + 1) - ((N : Nat) : Int))))) (by omega)) (fun _ h _ => h) rfl rfl (fun _ h => Or.inr h) (fun x hx => by simp at hx; subst hx; exact htw) rfl rfl (Nat.le_of_ble_eq_true rfl) (gFit.of hR (Nat.le_of_ble_eq_true rfl) (Nat.le_of_ble_eq_true rfl) (Nat.le_of_ble_eq_true rfl)) (fun v9 L9 h9 => ?_)
    obtain ⟨q1, rfl, rfl⟩ := h9
    refine l_eq (st' := [.ref q1, .ref a]) rfl rfl ?_
    refine l_L (L' := [(d, u, .inl (EV.2.1 2, N, .inr (.inr (.inr (.inr (f)))))), (q1, w, .inl (EV.2.1 2, (((N : Nat) : Int) + (if ((((N : Nat) : Int) + 1) - ((N : Nat) : Int)) < ((((N : Nat) : Int)) / 2) then ((((N : Nat) : Int)) / 2) else ((((N : Nat) : Int) + 1) - ((N : Nat) : Int)))).toNat, .inr (.inr (.inr (.inr (fun j => if j < N then f j else none)))))), (a, t, .inr (1, [.int (iI m), .ref d, .int (iI ((N : Nat) : Int))]))]) rfl ?_
    refine l_sub [1, 2] (L' := [(q1, w, .inl (EV.2.1 2, (((N : Nat) : Int) + (if ((((N : Nat) : Int) + 1) - ((N : Nat) : Int)) < ((((N : Nat) : Int)) / 2) then ((((N : Nat) : Int)) / 2) else ((((N : Nat) : Int) + 1) - ((N : Nat) : Int)))).toNat, .inr (.inr (.inr (.inr (fun j => if j < N then f j else none)))))), (a, t, .inr (1, [.int (iI m), .ref d, .int (iI ((N : Nat) : Int))]))]) rfl ?_
    refine l_run X 1 (pc1 := 41) (ls1 := [_, _, _, _]) (st1 := [_, _, _]) rfl ?_
    refine l_put X hK 1 rfl fJ2_9 rfl (gDp2 (Ne.symm htw)) (Or.inl rfl) rfl rfl (Nat.le_of_ble_eq_true rfl) (L' := [(q1, w, .inl (EV.2.1 2, (((N : Nat) : Int) + (if ((((N : Nat) : Int) + 1) - ((N : Nat) : Int)) < ((((N : Nat) : Int)) / 2) then ((((N : Nat) : Int)) / 2) else ((((N : Nat) : Int) + 1) - ((N : Nat) : Int)))).toNat, .inr (.inr (.inr (.inr (fun j => if j < N then f j else none)))))), (a, t, .inr (1, [.int (iI m), .ref q1, .int (iI ((N : Nat) : Int))]))]) rfl ?_
    exact l_aret X hQ rfl rfl (by first | exact Or.inl ⟨_, rfl⟩ | exact Or.inr ⟨_, rfl⟩) (Or.inr ⟨_, rfl⟩) (by first | exact Nat.le_of_ble_eq_true rfl | omega) (by first | exact Nat.le_of_ble_eq_true rfl | omega) ⟨q1, _, rfl, by omega, by omega, rfl⟩
  · have c7 : ((N : Nat) : Int) ≤ 0 := cNl b9 (by omega) (by omega)
    exact absurd c7 (by omega)
set_option maxHeartbeats 1000000 in
theorem jc_grow_2A (l : Launch) (EV : gEV) {a : Nat} {t w : gTag} (htw : t ≠ w) {m : Int} : JC l yJ2_grow_2 cJ2_grow_2 4 (some (.array (.object "java/lang/Object"))) 5 1 1000 EV kT (tO2 t w) [.ref a, .int (iI 1)] [(a, t, .inr (1, [.int (iI m), .ref (EV.2.2.2 0), .int (iI 0)]))] (fun v9 L9 => ∃ q : Nat, v9 = some (.ref q) ∧ L9 = [(a, t, .inr (1, [.int (iI m), .ref q, .int (iI 0)])), (q, w, .inl (EV.2.1 2, 10, .inr (.inr (.inr (.inr (fun _ => none))))))]) := by
  refine l_body tbJ2_grow_2 tkJ2_grow_2 (by decide) (by intro v hv; simp only [List.mem_cons, List.not_mem_nil, or_false] at hv; rcases hv with rfl | rfl <;> rfl) (Nat.le_of_ble_eq_true rfl) (fun M0 z Q X hl hR hQ => ?_)
  subst hl
  refine l_eq (ls' := [some (.ref a), some (.int (iI 1)), none, none]) (st' := []) rfl rfl ?_
  refine l_run X 1 (pc1 := 1) (ls1 := [_, _, _, _]) (st1 := [_]) rfl ?_
  refine l_get X 0 rfl fJ2_9 rfl rfl ?_
  refine l_alen0 X rfl ?_
  refine l_run X 2 (pc1 := 7) (ls1 := [_, _, _, _]) (st1 := [_]) rfl ?_
  refine l_br X (pc1 := 20) (st1 := []) rfl (fun b9 => ?_) (fun b9 => ?_)
  · have c7 : (0 : Int) < (0 : Int) := cLt b9 (by omega) (by omega)
    exact absurd c7 (by omega)
  · have c7 : (0 : Int) ≤ (0 : Int) := cNl b9 (by omega) (by omega)
    refine l_run X 1 (pc1 := 11) (ls1 := [_, _, _, _]) (st1 := [_]) rfl ?_
    refine l_get X 0 rfl fJ2_9 rfl rfl ?_
    refine l_gets X rfl X.stat.2.2.1 q127 (Or.inl rfl) ?_
    refine l_acmpE X (some (EV.2.2.2 0)) (some (EV.2.2.2 0)) (tgt := 45) rfl rfl rfl (fun _ => ?_) (fun h => absurd rfl h)
    refine l_run X 3 (pc1 := 49) (ls1 := [_, _, _, _]) (st1 := [_, _, _]) rfl ?_
    refine l_max X rfl q306 hR (Nat.le_of_ble_eq_true rfl) (Nat.le_of_ble_eq_true rfl) (Nat.le_of_ble_eq_true rfl) (by omega) (by omega) ?_
    rw [show (if (10 : Int) < (1 : Int) then (1 : Int) else (10 : Int)) = 10 by decide]
    refine l_newq X gKt w 2 (N := 10) rfl q307 (by decide) rfl (by decide) (by decide) (by omega) (rc hR (by omega)) (rs hR (by omega)) (fun q1 => ?_)
    refine l_L (L' := [(a, t, .inr (1, [.int (iI m), .ref (EV.2.2.2 0), .int (iI 0)])), (q1, w, .inl (EV.2.1 2, 10, .inr (.inr (.inr (.inr (fun _ => none))))))]) rfl ?_
    refine l_run X 1 (pc1 := 56) (ls1 := [_, _, _, _]) (st1 := [_, _, _]) rfl ?_
    refine l_put X gKt 0 rfl fJ2_9 rfl (gDp2 htw) (Or.inl rfl) rfl rfl (Nat.le_of_ble_eq_true rfl) (L' := [(a, t, .inr (1, [.int (iI m), .ref q1, .int (iI 0)])), (q1, w, .inl (EV.2.1 2, 10, .inr (.inr (.inr (.inr (fun _ => none))))))]) rfl ?_
    exact l_aret X hQ rfl rfl (by first | exact Or.inl ⟨_, rfl⟩ | exact Or.inr ⟨_, rfl⟩) (Or.inr ⟨_, rfl⟩) (by first | exact Nat.le_of_ble_eq_true rfl | omega) (by first | exact Nat.le_of_ble_eq_true rfl | omega) ⟨_, rfl, rfl⟩
set_option maxHeartbeats 1000000 in
theorem jc_growC (l : Launch) (EV : gEV) {a d : Nat} {t u w : gTag} (htu : t ≠ u) (htw : t ≠ w) (huw : u ≠ w) (ht : 30 ≤ t.1) (hw : 30 ≤ w.1) {m : Int} {N : Nat} (hN : 0 < N ∧ N ≤ 72) {f : Nat → Option Nat} : JC l yJ2_grow cJ2_grow 1 (some (.array (.object "java/lang/Object"))) 6 1 1000 EV (kOb f) (tO2 t w) [.ref a] [(a, t, .inr (1, [.int (iI m), .ref d, .int (iI ((N : Nat) : Int))])), (d, u, .inl (EV.2.1 2, N, .inr (.inr (.inr (.inr (f))))))] (fun v9 L9 => ∃ q N9 : Nat, v9 = some (.ref q) ∧ N + (N / 2 - 1) < N9 ∧ N9 ≤ 108 ∧ L9 = [(q, w, .inl (EV.2.1 2, N9, .inr (.inr (.inr (.inr (fun j => if j < N then f j else none)))))), (a, t, .inr (1, [.int (iI m), .ref q, .int (iI ((N : Nat) : Int))]))]) := by
  refine l_body tbJ2_grow tkJ2_grow (by decide) (by intro v hv; simp only [List.mem_cons, List.not_mem_nil, or_false] at hv; rcases hv with rfl <;> rfl) (Nat.le_of_ble_eq_true rfl) (fun M0 z Q X hl hR hQ => ?_)
  subst hl
  have hK : gKT (kOb f) (tO2 t w) := kOb_T (fun x hx => by rcases hx with hx | hx <;> rw [hx] <;> assumption)
  refine l_eq (ls' := [some (.ref a)]) (st' := []) rfl rfl ?_
  refine l_run X 2 (pc1 := 2) (ls1 := [_]) (st1 := [_, _]) rfl ?_
  refine l_get X 0 rfl fJ2_48 rfl rfl ?_
  refine l_run X 2 (pc1 := 7) (ls1 := [_]) (st1 := [_, _]) rfl ?_
  refine l_eq (ls' := [some (.ref a)]) (st' := [.int (iI (((N : Nat) : Int) + 1)), .ref a]) (by simp only [iI_add, iI_sub, iI_mul, iI_neg]) (by simp only [iI_add, iI_sub, iI_mul, iI_neg]) ?_
  refine l_callV X hK [0, 1] [] 0 rfl mJ2_69 (jc_grow_2C z.2.1 EV htu htw huw ht hw hN) rfl (fun _ h _ => h) rfl rfl (fun _ h => h) (fun _ h => by cases h) rfl rfl (Nat.le_of_ble_eq_true rfl) (gFit.of hR (Nat.le_of_ble_eq_true rfl) (Nat.le_of_ble_eq_true rfl) (Nat.le_of_ble_eq_true rfl)) (fun v9 L9 h9 => ?_)
  obtain ⟨q1, N1, rfl, hN1, hN2, rfl⟩ := h9
  refine l_eq (st' := [.ref q1]) rfl rfl ?_
  refine l_L (L' := [(q1, w, .inl (EV.2.1 2, N1, .inr (.inr (.inr (.inr (fun j => if j < N then f j else none)))))), (a, t, .inr (1, [.int (iI m), .ref q1, .int (iI ((N : Nat) : Int))]))]) rfl ?_
  exact l_aret X hQ rfl rfl (by first | exact Or.inl ⟨_, rfl⟩ | exact Or.inr ⟨_, rfl⟩) (Or.inr ⟨_, rfl⟩) (Nat.le_of_ble_eq_true rfl) (Nat.le_of_ble_eq_true rfl) ⟨q1, N1, rfl, hN1, hN2, rfl⟩
set_option maxHeartbeats 1000000 in
theorem jc_growA (l : Launch) (EV : gEV) {a : Nat} {t w : gTag} (htw : t ≠ w) {m : Int} : JC l yJ2_grow cJ2_grow 1 (some (.array (.object "java/lang/Object"))) 6 1 1000 EV kT (tO2 t w) [.ref a] [(a, t, .inr (1, [.int (iI m), .ref (EV.2.2.2 0), .int (iI 0)]))] (fun v9 L9 => ∃ q : Nat, v9 = some (.ref q) ∧ L9 = [(a, t, .inr (1, [.int (iI m), .ref q, .int (iI 0)])), (q, w, .inl (EV.2.1 2, 10, .inr (.inr (.inr (.inr (fun _ => none))))))]) := by
  refine l_body tbJ2_grow tkJ2_grow (by decide) (by intro v hv; simp only [List.mem_cons, List.not_mem_nil, or_false] at hv; rcases hv with rfl <;> rfl) (Nat.le_of_ble_eq_true rfl) (fun M0 z Q X hl hR hQ => ?_)
  subst hl
  refine l_eq (ls' := [some (.ref a)]) (st' := []) rfl rfl ?_
  refine l_run X 2 (pc1 := 2) (ls1 := [_]) (st1 := [_, _]) rfl ?_
  refine l_get X 0 rfl fJ2_48 rfl rfl ?_
  refine l_run X 2 (pc1 := 7) (ls1 := [_]) (st1 := [_, _]) rfl ?_
  refine l_eq (ls' := [some (.ref a)]) (st' := [.int (iI (0 + 1)), .ref a]) (by simp only [iI_add, iI_sub, iI_mul, iI_neg]) (by simp only [iI_add, iI_sub, iI_mul, iI_neg]) ?_
  refine l_callV X gKt [0] [] 0 rfl mJ2_69 (jc_grow_2A z.2.1 EV htw) rfl (fun _ _ _ => trivial) rfl rfl (fun _ h => h) (fun _ h => by cases h) rfl rfl (Nat.le_of_ble_eq_true rfl) (gFit.of hR (Nat.le_of_ble_eq_true rfl) (Nat.le_of_ble_eq_true rfl) (Nat.le_of_ble_eq_true rfl)) (fun v9 L9 h9 => ?_)
  obtain ⟨q1, rfl, rfl⟩ := h9
  refine l_eq (st' := [.ref q1]) rfl rfl ?_
  refine l_L (L' := [(a, t, .inr (1, [.int (iI m), .ref q1, .int (iI 0)])), (q1, w, .inl (EV.2.1 2, 10, .inr (.inr (.inr (.inr (fun _ => none))))))]) rfl ?_
  exact l_aret X hQ rfl rfl (by first | exact Or.inl ⟨_, rfl⟩ | exact Or.inr ⟨_, rfl⟩) (Or.inr ⟨_, rfl⟩) (by first | exact Nat.le_of_ble_eq_true rfl | omega) (by first | exact Nat.le_of_ble_eq_true rfl | omega) ⟨_, rfl, rfl⟩
set_option maxHeartbeats 1000000 in
theorem jc_add_2C (l : Launch) (EV : gEV) {a d : Nat} {t u w : gTag} (htu : t ≠ u) (htw : t ≠ w) (huw : u ≠ w) (ht : 30 ≤ t.1) (hw : 30 ≤ w.1) {m : Int} {x : Nat} {N : Nat} (hN : 0 < N ∧ N ≤ 72) {f : Nat → Option Nat} : JC l yJ2_add_2 cJ2_add_2 4 none 7 1 1000 EV (kOx f x) (tO2 t w) [.ref a, .ref x, .ref d, .int (iI ((N : Nat) : Int))] [(a, t, .inr (1, [.int (iI m), .ref d, .int (iI ((N : Nat) : Int))])), (d, u, .inl (EV.2.1 2, N, .inr (.inr (.inr (.inr (f))))))] (fun v9 L9 => ∃ q N9 : Nat, v9 = none ∧ N + (N / 2 - 1) < N9 ∧ N9 ≤ 108 ∧ L9 = [(q, w, .inl (EV.2.1 2, N9, .inr (.inr (.inr (.inr (va_up (fun j => if j < N then f j else none) (N) (some x))))))), (a, t, .inr (1, [.int (iI m), .ref q, .int (iI (((N : Nat) : Int) + 1))]))]) := by
  refine l_body tbJ2_add_2 tkJ2_add_2 (by decide) (by intro v hv; simp only [List.mem_cons, List.not_mem_nil, or_false] at hv; rcases hv with rfl | rfl | rfl | rfl <;> rfl) (Nat.le_of_ble_eq_true rfl) (fun M0 z Q X hl hR hQ => ?_)
  subst hl
  have hK : gKT (kOx f x) (tO2 t w) := kOx_T (fun y hy => by rcases hy with hy | hy <;> rw [hy] <;> assumption)
  refine l_eq (ls' := [some (.ref a), some (.ref x), some (.ref d), some (.int (iI ((N : Nat) : Int)))]) (st' := []) rfl rfl ?_
  refine l_run X 2 (pc1 := 2) (ls1 := [_, _, _, _]) (st1 := [_, _]) rfl ?_
  refine l_alen X 1 2 rfl rfl rfl (iI_ofNat N) ?_
  refine l_br X (pc1 := 11) (st1 := []) rfl (fun b9 => ?_) (fun b9 => ?_)
  · have c3 : ¬ ((N : Nat) : Int) = ((N : Nat) : Int) := cNq b9 (by omega) (by omega)
    exact absurd rfl c3
  · have c3 : ((N : Nat) : Int) = ((N : Nat) : Int) := cEq b9 (by omega) (by omega)
    refine l_run X 1 (pc1 := 7) (ls1 := [_, _, _, _]) (st1 := [_]) rfl ?_
    refine l_callV X hK [0, 1] [] 0 rfl mJ2_129 (jc_growC z.2.1 EV htu htw huw ht hw hN) rfl (fun _ h _ => h.1) rfl rfl (fun _ h => h) (fun _ h => by cases h) rfl rfl (Nat.le_of_ble_eq_true rfl) (gFit.of hR (Nat.le_of_ble_eq_true rfl) (Nat.le_of_ble_eq_true rfl) (Nat.le_of_ble_eq_true rfl)) (fun v9 L9 h9 => ?_)
    obtain ⟨q1, N1, rfl, hN1, hN2, rfl⟩ := h9
    refine l_eq (st' := [.ref q1]) rfl rfl ?_
    refine l_L (L' := [(q1, w, .inl (EV.2.1 2, N1, .inr (.inr (.inr (.inr (fun j => if j < N then f j else none)))))), (a, t, .inr (1, [.int (iI m), .ref q1, .int (iI ((N : Nat) : Int))]))]) rfl ?_
    refine l_run X 4 (pc1 := 14) (ls1 := [_, _, _, _]) (st1 := [_, _, _]) rfl ?_
    refine l_aast X hK 0 rfl rfl (fun _ h _ => (h.2).ob) (gDp2 (Ne.symm htw)) (Or.inr rfl) (gIx_i (by omega) (by omega)) (L' := [(q1, w, .inl (EV.2.1 2, N1, .inr (.inr (.inr (.inr (va_up (fun j => if j < N then f j else none) N (some x))))))), (a, t, .inr (1, [.int (iI m), .ref q1, .int (iI ((N : Nat) : Int))]))]) rfl ?_
    refine l_run X 4 (pc1 := 19) (ls1 := [_, _, _, _]) (st1 := [_, _]) rfl ?_
    refine l_eq (ls' := [some (.ref a), some (.ref x), some (.ref q1), some (.int (iI ((N : Nat) : Int)))]) (st' := [.int (iI (((N : Nat) : Int) + 1)), .ref a]) (by simp only [iI_add, iI_sub, iI_mul, iI_neg]) (by simp only [iI_add, iI_sub, iI_mul, iI_neg]) ?_
    refine l_put X hK 1 rfl fJ2_48 rfl (gDp2 (Ne.symm htw)) (Or.inl rfl) rfl rfl (Nat.le_of_ble_eq_true rfl) (L' := [(q1, w, .inl (EV.2.1 2, N1, .inr (.inr (.inr (.inr (va_up (fun j => if j < N then f j else none) N (some x))))))), (a, t, .inr (1, [.int (iI m), .ref q1, .int (iI (((N : Nat) : Int) + 1))]))]) rfl ?_
    exact l_vret X hQ rfl rfl (Nat.le_of_ble_eq_true rfl) (Nat.le_of_ble_eq_true rfl) ⟨q1, N1, rfl, hN1, hN2, rfl⟩
set_option maxHeartbeats 1000000 in
theorem jc_add_2A (l : Launch) (EV : gEV) {a x : Nat} {t w : gTag} (htw : t ≠ w) (ht : 30 ≤ t.1) (hw : 30 ≤ w.1) {m : Int} : JC l yJ2_add_2 cJ2_add_2 4 none 7 1 1000 EV (kOx (fun _ => none) x) (tO2 t w) [.ref a, .ref x, .ref (EV.2.2.2 0), .int (iI 0)] [(a, t, .inr (1, [.int (iI m), .ref (EV.2.2.2 0), .int (iI 0)]))] (fun v9 L9 => ∃ q : Nat, v9 = none ∧ L9 = [(a, t, .inr (1, [.int (iI m), .ref q, .int (iI 1)])), (q, w, .inl (EV.2.1 2, 10, .inr (.inr (.inr (.inr (va_up (fun _ => none) (0) (some x)))))))]) := by
  refine l_body tbJ2_add_2 tkJ2_add_2 (by decide) (by intro v hv; simp only [List.mem_cons, List.not_mem_nil, or_false] at hv; rcases hv with rfl | rfl | rfl | rfl <;> rfl) (Nat.le_of_ble_eq_true rfl) (fun M0 z Q X hl hR hQ => ?_)
  subst hl
  have hK : gKT (kOx (fun _ => none) x) (tO2 t w) := kOx_T (fun y hy => by rcases hy with hy | hy <;> rw [hy] <;> assumption)
  refine l_eq (ls' := [some (.ref a), some (.ref x), some (.ref (EV.2.2.2 0)), some (.int (iI 0))]) (st' := []) rfl rfl ?_
  refine l_run X 2 (pc1 := 2) (ls1 := [_, _, _, _]) (st1 := [_, _]) rfl ?_
  refine l_alen0 X rfl ?_
  refine l_br X (pc1 := 11) (st1 := []) rfl (fun b9 => ?_) (fun b9 => ?_)
  · have c3 : ¬ (0 : Int) = (0 : Int) := cNq b9 (by omega) (by omega)
    exact absurd rfl c3
  · have c3 : (0 : Int) = (0 : Int) := cEq b9 (by omega) (by omega)
    refine l_run X 1 (pc1 := 7) (ls1 := [_, _, _, _]) (st1 := [_]) rfl ?_
    refine l_callV X hK [0] [] 0 rfl mJ2_129 (jc_growA z.2.1 EV htw) rfl (fun _ _ _ => trivial) rfl rfl (fun _ h => h) (fun _ h => by cases h) rfl rfl (Nat.le_of_ble_eq_true rfl) (gFit.of hR (Nat.le_of_ble_eq_true rfl) (Nat.le_of_ble_eq_true rfl) (Nat.le_of_ble_eq_true rfl)) (fun v9 L9 h9 => ?_)
    obtain ⟨q1, rfl, rfl⟩ := h9
    refine l_eq (st' := [.ref q1]) rfl rfl ?_
    refine l_L (L' := [(a, t, .inr (1, [.int (iI m), .ref q1, .int (iI 0)])), (q1, w, .inl (EV.2.1 2, 10, .inr (.inr (.inr (.inr (fun _ => none))))))]) rfl ?_
    refine l_run X 4 (pc1 := 14) (ls1 := [_, _, _, _]) (st1 := [_, _, _]) rfl ?_
    refine l_aast X hK 1 rfl rfl (fun _ h _ => (h.2).ob) (gDp2 htw) (Or.inr rfl) (gIx_i (z := 0) (by decide) (by decide)) (L' := [(a, t, .inr (1, [.int (iI m), .ref q1, .int (iI 0)])), (q1, w, .inl (EV.2.1 2, 10, .inr (.inr (.inr (.inr (va_up (fun _ => none) 0 (some x)))))))]) rfl ?_
    refine l_run X 4 (pc1 := 19) (ls1 := [_, _, _, _]) (st1 := [_, _]) rfl ?_
    refine l_eq (ls' := [some (.ref a), some (.ref x), some (.ref q1), some (.int (iI 0))]) (st' := [.int (iI (0 + 1)), .ref a]) (by simp only [iI_add, iI_sub, iI_mul, iI_neg]) (by simp only [iI_add, iI_sub, iI_mul, iI_neg]) ?_
    refine l_put X hK 0 rfl fJ2_48 rfl (gDp2 htw) (Or.inl rfl) rfl rfl (Nat.le_of_ble_eq_true rfl) (L' := [(a, t, .inr (1, [.int (iI m), .ref q1, .int (iI (0 + 1))])), (q1, w, .inl (EV.2.1 2, 10, .inr (.inr (.inr (.inr (va_up (fun _ => none) 0 (some x)))))))]) rfl ?_
    refine l_eq (st' := []) rfl rfl ?_
    exact l_vret X hQ rfl rfl (Nat.le_of_ble_eq_true rfl) (Nat.le_of_ble_eq_true rfl) ⟨q1, rfl, rfl⟩
set_option maxHeartbeats 1000000 in
theorem jc_add_2B (l : Launch) (EV : gEV) {a d x : Nat} {t u : gTag} (htu : t ≠ u) (ht : 30 ≤ t.1) (hu : 30 ≤ u.1) {m s0 : Int} {N : Nat} (hs : 0 ≤ s0 ∧ s0 < N) (hN : N ≤ 108) {f : Nat → Option Nat} : JC l yJ2_add_2 cJ2_add_2 4 none 7 1 1000 EV (kOx f x) (tO2 t u) [.ref a, .ref x, .ref d, .int (iI s0)] [(a, t, .inr (1, [.int (iI m), .ref d, .int (iI s0)])), (d, u, .inl (EV.2.1 2, N, .inr (.inr (.inr (.inr (f))))))] (jP none [(a, t, .inr (1, [.int (iI m), .ref d, .int (iI (s0 + 1))])), (d, u, .inl (EV.2.1 2, N, .inr (.inr (.inr (.inr (va_up (f) (s0.toNat) (some x)))))))]) := by
  refine l_body tbJ2_add_2 tkJ2_add_2 (by decide) (by intro v hv; simp only [List.mem_cons, List.not_mem_nil, or_false] at hv; rcases hv with rfl | rfl | rfl | rfl <;> rfl) (Nat.le_of_ble_eq_true rfl) (fun M0 z Q X hl hR hQ => ?_)
  subst hl
  have hK : gKT (kOx f x) (tO2 t u) := kOx_T (fun y hy => by rcases hy with hy | hy <;> rw [hy] <;> assumption)
  refine l_eq (ls' := [some (.ref a), some (.ref x), some (.ref d), some (.int (iI s0))]) (st' := []) rfl rfl ?_
  refine l_run X 2 (pc1 := 2) (ls1 := [_, _, _, _]) (st1 := [_, _]) rfl ?_
  refine l_alen X 1 2 rfl rfl rfl (iI_ofNat N) ?_
  refine l_br X (pc1 := 11) (st1 := []) rfl (fun b9 => ?_) (fun b9 => ?_)
  · have c3 : ¬ s0 = ((N : Nat) : Int) := cNq b9 (by omega) (by omega)
    refine l_run X 3 (pc1 := 14) (ls1 := [_, _, _, _]) (st1 := [_, _, _]) rfl ?_
    refine l_aast X hK 1 rfl rfl (fun _ h _ => (h.2).ob) (gDp2 htu) (Or.inr rfl) (gIx_i (by omega) (by omega)) (L' := [(a, t, .inr (1, [.int (iI m), .ref d, .int (iI s0)])), (d, u, .inl (EV.2.1 2, N, .inr (.inr (.inr (.inr (va_up (f) (s0.toNat) (some x)))))))]) rfl ?_
    refine l_run X 4 (pc1 := 19) (ls1 := [_, _, _, _]) (st1 := [_, _]) rfl ?_
    refine l_eq (ls' := [some (.ref a), some (.ref x), some (.ref d), some (.int (iI s0))]) (st' := [.int (iI (s0 + 1)), .ref a]) (by simp only [iI_add, iI_sub, iI_mul, iI_neg]) (by simp only [iI_add, iI_sub, iI_mul, iI_neg]) ?_
    refine l_put X hK 0 rfl fJ2_48 rfl (gDp2 htu) (Or.inl rfl) rfl rfl (Nat.le_of_ble_eq_true rfl) (L' := [(a, t, .inr (1, [.int (iI m), .ref d, .int (iI (s0 + 1))])), (d, u, .inl (EV.2.1 2, N, .inr (.inr (.inr (.inr (va_up (f) (s0.toNat) (some x)))))))]) rfl ?_
    exact l_vret X hQ rfl rfl (Nat.le_of_ble_eq_true rfl) (Nat.le_of_ble_eq_true rfl) ⟨rfl, rfl⟩
  · have c3 : s0 = ((N : Nat) : Int) := cEq b9 (by omega) (by omega)
    exact absurd c3 (by omega)
set_option maxHeartbeats 1000000 in
theorem jc_addC (l : Launch) (EV : gEV) {a d : Nat} {t u w : gTag} (htu : t ≠ u) (htw : t ≠ w) (huw : u ≠ w) (ht : 30 ≤ t.1) (hw : 30 ≤ w.1) {m : Int} {x : Nat} {N : Nat} (hN : 0 < N ∧ N ≤ 72) {f : Nat → Option Nat} : JC l yJ2_add cJ2_add 2 (some .boolean) 8 1 1000 EV (kOx f x) (tO2 t w) [.ref a, .ref x] [(a, t, .inr (1, [.int (iI m), .ref d, .int (iI ((N : Nat) : Int))])), (d, u, .inl (EV.2.1 2, N, .inr (.inr (.inr (.inr (f))))))] (fun v9 L9 => ∃ q N9 : Nat, v9 = some (.int (iI 1)) ∧ N + (N / 2 - 1) < N9 ∧ N9 ≤ 108 ∧ L9 = [(q, w, .inl (EV.2.1 2, N9, .inr (.inr (.inr (.inr (va_up (fun j => if j < N then f j else none) (N) (some x))))))), (a, t, .inr (1, [.int (iI (m + 1)), .ref q, .int (iI (((N : Nat) : Int) + 1))]))]) := by
  refine l_body tbJ2_add tkJ2_add (by decide) (by intro v hv; simp only [List.mem_cons, List.not_mem_nil, or_false] at hv; rcases hv with rfl | rfl <;> rfl) (Nat.le_of_ble_eq_true rfl) (fun M0 z Q X hl hR hQ => ?_)
  subst hl
  have hK : gKT (kOx f x) (tO2 t w) := kOx_T (fun y hy => by rcases hy with hy | hy <;> rw [hy] <;> assumption)
  refine l_eq (ls' := [some (.ref a), some (.ref x)]) (st' := []) rfl rfl ?_
  refine l_run X 2 (pc1 := 2) (ls1 := [_, _]) (st1 := [_, _]) rfl ?_
  refine l_get X 0 rfl fJ2_63_1 rfl rfl ?_
  refine l_run X 2 (pc1 := 7) (ls1 := [_, _]) (st1 := [_, _]) rfl ?_
  refine l_eq (ls' := [some (.ref a), some (.ref x)]) (st' := [.int (iI (m + 1)), .ref a]) (by simp only [iI_add, iI_sub, iI_mul, iI_neg]) (by simp only [iI_add, iI_sub, iI_mul, iI_neg]) ?_
  refine l_put X hK 0 rfl fJ2_63_1 rfl (gDp2 htu) (Or.inl rfl) rfl rfl (Nat.le_of_ble_eq_true rfl) (L' := [(a, t, .inr (1, [.int (iI (m + 1)), .ref d, .int (iI ((N : Nat) : Int))])), (d, u, .inl (EV.2.1 2, N, .inr (.inr (.inr (.inr (f))))))]) rfl ?_
  refine l_run X 3 (pc1 := 13) (ls1 := [_, _]) (st1 := [_, _, _]) rfl ?_
  refine l_get X 0 rfl fJ2_9 rfl rfl ?_
  refine l_run X 1 (pc1 := 17) (ls1 := [_, _]) (st1 := [_, _, _, _]) rfl ?_
  refine l_get X 0 rfl fJ2_48 rfl rfl ?_
  refine l_callV X hK [0, 1] [] 0 rfl mJ2_131 (jc_add_2C z.2.1 EV htu htw huw ht hw hN) rfl (fun _ h _ => h) rfl rfl (fun _ h => h) (fun _ h => by cases h) rfl rfl (Nat.le_of_ble_eq_true rfl) (gFit.of hR (Nat.le_of_ble_eq_true rfl) (Nat.le_of_ble_eq_true rfl) (Nat.le_of_ble_eq_true rfl)) (fun v9 L9 h9 => ?_)
  obtain ⟨q1, N1, rfl, hN1, hN2, rfl⟩ := h9
  refine l_eq (st' := []) rfl rfl ?_
  refine l_L (L' := [(q1, w, .inl (EV.2.1 2, N1, .inr (.inr (.inr (.inr (va_up (fun j => if j < N then f j else none) (N) (some x))))))), (a, t, .inr (1, [.int (iI (m + 1)), .ref q1, .int (iI (((N : Nat) : Int) + 1))]))]) rfl ?_
  refine l_run X 1 (pc1 := 24) (ls1 := [_, _]) (st1 := [_]) rfl ?_
  exact l_zret X hQ rfl rfl rfl (Nat.le_of_ble_eq_true rfl) (Nat.le_of_ble_eq_true rfl) ⟨q1, N1, rfl, hN1, hN2, rfl⟩
set_option maxHeartbeats 1000000 in
theorem jc_addA (l : Launch) (EV : gEV) {a x : Nat} {t w : gTag} (htw : t ≠ w) (ht : 30 ≤ t.1) (hw : 30 ≤ w.1) {m : Int} : JC l yJ2_add cJ2_add 2 (some .boolean) 8 1 1000 EV (kOx (fun _ => none) x) (tO2 t w) [.ref a, .ref x] [(a, t, .inr (1, [.int (iI m), .ref (EV.2.2.2 0), .int (iI 0)]))] (fun v9 L9 => ∃ q : Nat, v9 = some (.int (iI 1)) ∧ L9 = [(a, t, .inr (1, [.int (iI (m + 1)), .ref q, .int (iI 1)])), (q, w, .inl (EV.2.1 2, 10, .inr (.inr (.inr (.inr (va_up (fun _ => none) (0) (some x)))))))]) := by
  refine l_body tbJ2_add tkJ2_add (by decide) (by intro v hv; simp only [List.mem_cons, List.not_mem_nil, or_false] at hv; rcases hv with rfl | rfl <;> rfl) (Nat.le_of_ble_eq_true rfl) (fun M0 z Q X hl hR hQ => ?_)
  subst hl
  have hK : gKT (kOx (fun _ => none) x) (tO2 t w) := kOx_T (fun y hy => by rcases hy with hy | hy <;> rw [hy] <;> assumption)
  refine l_eq (ls' := [some (.ref a), some (.ref x)]) (st' := []) rfl rfl ?_
  refine l_run X 2 (pc1 := 2) (ls1 := [_, _]) (st1 := [_, _]) rfl ?_
  refine l_get X 0 rfl fJ2_63_1 rfl rfl ?_
  refine l_run X 2 (pc1 := 7) (ls1 := [_, _]) (st1 := [_, _]) rfl ?_
  refine l_eq (ls' := [some (.ref a), some (.ref x)]) (st' := [.int (iI (m + 1)), .ref a]) (by simp only [iI_add, iI_sub, iI_mul, iI_neg]) (by simp only [iI_add, iI_sub, iI_mul, iI_neg]) ?_
  refine l_put X hK 0 rfl fJ2_63_1 rfl (gDb_s rfl) (Or.inl rfl) rfl rfl (Nat.le_of_ble_eq_true rfl) (L' := [(a, t, .inr (1, [.int (iI (m + 1)), .ref (EV.2.2.2 0), .int (iI 0)]))]) rfl ?_
  refine l_run X 3 (pc1 := 13) (ls1 := [_, _]) (st1 := [_, _, _]) rfl ?_
  refine l_get X 0 rfl fJ2_9 rfl rfl ?_
  refine l_run X 1 (pc1 := 17) (ls1 := [_, _]) (st1 := [_, _, _, _]) rfl ?_
  refine l_get X 0 rfl fJ2_48 rfl rfl ?_
  refine l_callV X hK [0] [] 0 rfl mJ2_131 (jc_add_2A z.2.1 EV htw ht hw) rfl (fun _ h _ => h) rfl rfl (fun _ h => h) (fun _ h => by cases h) rfl rfl (Nat.le_of_ble_eq_true rfl) (gFit.of hR (Nat.le_of_ble_eq_true rfl) (Nat.le_of_ble_eq_true rfl) (Nat.le_of_ble_eq_true rfl)) (fun v9 L9 h9 => ?_)
  obtain ⟨q1, rfl, rfl⟩ := h9
  refine l_eq (st' := []) rfl rfl ?_
  refine l_L (L' := [(a, t, .inr (1, [.int (iI (m + 1)), .ref q1, .int (iI 1)])), (q1, w, .inl (EV.2.1 2, 10, .inr (.inr (.inr (.inr (va_up (fun _ => none) (0) (some x)))))))]) rfl ?_
  refine l_run X 1 (pc1 := 24) (ls1 := [_, _]) (st1 := [_]) rfl ?_
  exact l_zret X hQ rfl rfl rfl (Nat.le_of_ble_eq_true rfl) (Nat.le_of_ble_eq_true rfl) ⟨q1, rfl, rfl⟩
set_option maxHeartbeats 1000000 in
theorem jc_addB (l : Launch) (EV : gEV) {a d x : Nat} {t u : gTag} (htu : t ≠ u) (ht : 30 ≤ t.1) (hu : 30 ≤ u.1) {m s0 : Int} {N : Nat} (hs : 0 ≤ s0 ∧ s0 < N) (hN : N ≤ 108) {f : Nat → Option Nat} : JC l yJ2_add cJ2_add 2 (some .boolean) 8 1 1000 EV (kOx f x) (tO2 t u) [.ref a, .ref x] [(a, t, .inr (1, [.int (iI m), .ref d, .int (iI s0)])), (d, u, .inl (EV.2.1 2, N, .inr (.inr (.inr (.inr (f))))))] (jP (some (.int (iI 1))) [(a, t, .inr (1, [.int (iI (m + 1)), .ref d, .int (iI (s0 + 1))])), (d, u, .inl (EV.2.1 2, N, .inr (.inr (.inr (.inr (va_up (f) (s0.toNat) (some x)))))))]) := by
  refine l_body tbJ2_add tkJ2_add (by decide) (by intro v hv; simp only [List.mem_cons, List.not_mem_nil, or_false] at hv; rcases hv with rfl | rfl <;> rfl) (Nat.le_of_ble_eq_true rfl) (fun M0 z Q X hl hR hQ => ?_)
  subst hl
  have hK : gKT (kOx f x) (tO2 t u) := kOx_T (fun y hy => by rcases hy with hy | hy <;> rw [hy] <;> assumption)
  refine l_eq (ls' := [some (.ref a), some (.ref x)]) (st' := []) rfl rfl ?_
  refine l_run X 2 (pc1 := 2) (ls1 := [_, _]) (st1 := [_, _]) rfl ?_
  refine l_get X 0 rfl fJ2_63_1 rfl rfl ?_
  refine l_run X 2 (pc1 := 7) (ls1 := [_, _]) (st1 := [_, _]) rfl ?_
  refine l_eq (ls' := [some (.ref a), some (.ref x)]) (st' := [.int (iI (m + 1)), .ref a]) (by simp only [iI_add, iI_sub, iI_mul, iI_neg]) (by simp only [iI_add, iI_sub, iI_mul, iI_neg]) ?_
  refine l_put X hK 0 rfl fJ2_63_1 rfl (gDp2 htu) (Or.inl rfl) rfl rfl (Nat.le_of_ble_eq_true rfl) (L' := [(a, t, .inr (1, [.int (iI (m + 1)), .ref d, .int (iI s0)])), (d, u, .inl (EV.2.1 2, N, .inr (.inr (.inr (.inr (f))))))]) rfl ?_
  refine l_run X 3 (pc1 := 13) (ls1 := [_, _]) (st1 := [_, _, _]) rfl ?_
  refine l_get X 0 rfl fJ2_9 rfl rfl ?_
  refine l_run X 1 (pc1 := 17) (ls1 := [_, _]) (st1 := [_, _, _, _]) rfl ?_
  refine l_get X 0 rfl fJ2_48 rfl rfl ?_
  refine l_callV X hK [0, 1] [] 0 rfl mJ2_131 (jc_add_2B z.2.1 EV htu ht hu hs hN) rfl (fun _ h _ => h) rfl rfl (fun _ h => h) (fun _ h => by cases h) rfl rfl (Nat.le_of_ble_eq_true rfl) (gFit.of hR (Nat.le_of_ble_eq_true rfl) (Nat.le_of_ble_eq_true rfl) (Nat.le_of_ble_eq_true rfl)) (fun v9 L9 h9 => ?_)
  obtain ⟨rfl, rfl⟩ := h9
  refine l_eq (st' := []) rfl rfl ?_
  refine l_L (L' := [(a, t, .inr (1, [.int (iI (m + 1)), .ref d, .int (iI (s0 + 1))])), (d, u, .inl (EV.2.1 2, N, .inr (.inr (.inr (.inr (va_up (f) (s0.toNat) (some x)))))))]) rfl ?_
  refine l_run X 1 (pc1 := 24) (ls1 := [_, _]) (st1 := [_]) rfl ?_
  exact l_zret X hQ rfl rfl rfl (Nat.le_of_ble_eq_true rfl) (Nat.le_of_ble_eq_true rfl) ⟨rfl, rfl⟩
