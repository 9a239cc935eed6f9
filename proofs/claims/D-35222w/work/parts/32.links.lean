/-! THE JDK's linked lists over the whole picture -/
section
variable (l : Launch) (EV : gEV) {M : gM} {i a n : Nat} {f : Nat → Nat}
theorem tLL_2 {p : Nat} (hp : p < 8) : ∀ t, tO2 (24, i) (25, 8 * i + p) t → tLL i t := fun t h => by
  rcases h with h | h
  · exact Or.inl h
  · exact Or.inr (by rw [h]; exact ⟨rfl, by show (8 * i + p) / 8 = i; omega⟩)
theorem tLL_3 {p p' : Nat} (hp : p < 8) (hp' : p' < 8) : ∀ t, tO3 (24, i) (25, 8 * i + p) (25, 8 * i + p') t → tLL i t := fun t h => by
  rcases h with h | h | h
  · exact Or.inl h
  · exact Or.inr (by rw [h]; exact ⟨rfl, by show (8 * i + p) / 8 = i; omega⟩)
  · exact Or.inr (by rw [h]; exact ⟨rfl, by show (8 * i + p') / 8 = i; omega⟩)
theorem mod_in (m : Int) : ∃ m' : Int, inR m' ∧ iI m' = iI m := ⟨(iI m).toInt, inR_toInt _, iI_self _⟩
theorem ll_size (h : gLk M i a n f) : GC l yJ7_size (ws_ yJ7_size cJ7_size 1 (some .int)) 1 0 0 EV [.ref a] M (fun w M' => w = some (.int (iI (n : Int))) ∧ gFr tF M M') gNo := by
  obtain ⟨m, ns, g0, g3, g1, g2⟩ := h
  exact (jc_J7_size l EV M trivial (gL1 g1)).mono (fun v M' ⟨L', ⟨e1, e2⟩, hL, hF⟩ => ⟨e1, hF⟩) gNo.x
theorem ll_empty (h : gLk M i a n f) : GC l yJ0_isEmpty (ws_ yJ0_isEmpty cJ0_isEmpty 1 (some .boolean)) 2 0 0 EV [.ref a] M (fun w M' => w = some (.int (iI (bI ((n : Int) = 0)))) ∧ gFr tF M M') gNo := by
  obtain ⟨m, ns, g0, g3, g1, g2⟩ := h
  exact (jc_J7_isEmpty l EV (by omega) M trivial (gL1 g1)).mono (fun v M' ⟨L', ⟨e1, e2⟩, hL, hF⟩ => ⟨e1, hF⟩) gNo.x
theorem ll_get (h : gLk M i a n f) {x : Int} (hx : 0 ≤ x ∧ x < n) : GC l yJ7_get (ws_ yJ7_get cJ7_get 2 (some (.object "java/lang/Object"))) 3 0 0 EV [.ref a, .int (iI x)] M (fun w M' => w = some (.ref (f x.toNat)) ∧ gFr tF M M') gNo := by
  obtain ⟨m, ns, g0, g3, g1, g2⟩ := h
  rw [if_neg (by omega), if_neg (by omega)] at g1
  exact (jc_get l EV g0 hx M g2 (gL1 g1)).mono (fun v M' ⟨L', ⟨e1, e2⟩, hL, hF⟩ => ⟨e1, hF⟩) gNo.x
theorem ll_last (h : gLk M i a n f) (hn : 0 < n) : GC l yJ7_getLast (ws_ yJ7_getLast cJ7_getLast 2 (some (.object "java/lang/Object"))) 1 0 0 EV [.ref a] M (fun w M' => w = some (.ref (f (n - 1))) ∧ gFr tF M M') gNo := by
  obtain ⟨m, ns, g0, g3, g1, g2⟩ := h
  rw [if_neg (by omega), if_neg (by omega)] at g1
  exact (jc_getLast l EV M trivial (gL2 g1 (g2 (n - 1) (by omega) (by omega)))).mono (fun v M' ⟨L', ⟨e1, e2⟩, hL, hF⟩ => ⟨e1, hF⟩) gNo.x
theorem ll_init {v0 v1 : Value} (h : M a = some ((24, i), .inr (2, [v0, v1, .null, .null]))) (f : Nat → Nat) : GC l yJ7_init (ws_ yJ7_init cJ7_init 1 none) 4 0 0 EV [.ref a] M (fun w M' => w = none ∧ gLk M' i a 0 f ∧ gFr (tO (24, i)) M M') gNo := by
  refine (jc_J7_init l EV M trivial (gL1 h)).mono (fun v M' ⟨L', ⟨e1, e2⟩, hL, hF⟩ => ⟨e1, ?_, hF⟩) gNo.x
  subst e2
  exact ⟨0, fun _ => 0, by omega, by omega, hL.at (i := 0) rfl, fun p h1 h2 => absurd h2 (by omega)⟩
theorem ll_add (h : gLk M i a n f) (hn : n < 6) (x : Nat) : GC l yJ7_addLast (ws_ yJ7_addLast cJ7_addLast 2 none) 3 1 3 EV [.ref a, .ref x] M (fun w M' => w = none ∧ gLk M' i a (n + 1) (fun j => if j = n then x else f j) ∧ gFr (tLL i) M M') gNo := by
  obtain ⟨m, ns, g0, g3, g1, g2⟩ := h
  obtain ⟨m', hm1, hm2⟩ := mod_in (m + 1)
  by_cases h0 : n = 0
  · subst h0
    rw [if_pos rfl] at g1
    refine (jc_addLastE l EV (x := x) (t := (24, i)) (w := (25, 8 * i + 0)) (by simp) M trivial (gL1 g1)).mono (fun v M' ⟨L', ⟨q, e1, e2⟩, hL, hF⟩ => ⟨e1, ?_, hF.to (tLL_2 (by omega))⟩) gNo.x
    subst e2
    refine ⟨m', fun _ => q, by omega, hm1, ?_, fun p h1 h2 => ?_⟩
    · rw [hm2]; exact hL.at (i := 1) rfl
    · obtain rfl : p = 0 := by omega
      exact hL.at (i := 0) rfl
  · rw [if_neg h0, if_neg h0] at g1
    refine (jc_addLastN l EV (x := x) (t := (24, i)) (u := (25, 8 * i + (n - 1))) (w := (25, 8 * i + n)) (by simp) (by simp) (by simp; omega) M trivial (gL2 g1 (g2 (n - 1) (by omega) (by omega)))).mono (fun v M' ⟨L', ⟨q, e1, e2⟩, hL, hF⟩ => ⟨e1, ?_, hF.to (tLL_3 (by omega) (by omega))⟩) gNo.x
    subst e2
    obtain ⟨ns3, k1, k2⟩ : ∃ ns3 : Nat → Nat, ns3 n = q ∧ ∀ x, x < n → ns3 x = ns x := ⟨fun x => if x = n then q else ns x, if_pos rfl, fun x hx => if_neg (by omega)⟩
    have hpv : ∀ p, p ≤ n → gPv ns3 p = gPv ns p := fun p hp => by
      unfold gPv
      by_cases h3 : p = 0
      · rw [if_pos h3, if_pos h3]
      · rw [if_neg h3, if_neg h3, k2 (p - 1) (by omega)]
    refine ⟨m', ns3, by omega, hm1, ?_, fun p h1 h2 => ?_⟩
    · rw [hm2, if_neg (by omega), if_neg (by omega), show n + 1 - 1 = n from rfl, k1, k2 0 (by omega)]
      exact hL.at (i := 1) rfl
    · show M' (ns3 p) = some ((25, 8 * i + p), .inr (8, [.ref (if p = n then x else f p), gNx ns3 (n + 1) p, gPv ns3 p]))
      by_cases hpn : p = n
      · subst hpn
        have h9 := hL.at (i := 0) rfl
        rw [if_pos rfl, gNx_0 (by omega), hpv p (by omega), gPv_1 h0, k1]
        exact h9
      · rw [if_neg hpn, gNx_1 (by omega), hpv p (by omega), k2 p (by omega)]
        by_cases hpl : p = n - 1
        · subst hpl
          have h9 := hL.at (i := 2) rfl
          rw [show n - 1 + 1 = n by omega, k1]
          exact h9
        · have h9 := hF _ _ _ (g2 p h1 (by omega)) (fun z => by rcases z with z | z | z <;> simp at z <;> omega)
          rw [gNx_1 (by omega)] at h9
          rw [k2 (p + 1) (by omega)]
          exact h9
theorem ll_remove (h : gLk M i a n f) (hn : 0 < n) : GC l yJ7_removeLast (ws_ yJ7_removeLast cJ7_removeLast 2 (some (.object "java/lang/Object"))) 2 0 0 EV [.ref a] M (fun w M' => w = some (.ref (f (n - 1))) ∧ gLk M' i a (n - 1) f ∧ gFr (tLL i) M M') gNo := by
  obtain ⟨m, ns, g0, g3, g1, g2⟩ := h
  obtain ⟨m', hm1, hm2⟩ := mod_in (m + 1)
  rw [if_neg (by omega), if_neg (by omega)] at g1
  by_cases h1 : n = 1
  · subst h1
    refine (jc_remove1 l EV (t := (24, i)) (u := (25, 8 * i + 0)) (by simp) M trivial (gL2 g1 (g2 0 (by omega) (by omega)))).mono (fun v M' ⟨L', ⟨e1, e2⟩, hL, hF⟩ => ⟨e1, ?_, hF.to (tLL_2 (by omega))⟩) gNo.x
    subst e2
    refine ⟨m', ns, by omega, hm1, ?_, fun p q1 q2 => absurd q2 (by omega)⟩
    rw [hm2]
    exact hL.at (i := 0) rfl
  · have gn := g2 (n - 1) (by omega) (by omega)
    unfold gNd at gn
    rw [gPv_1 (by omega)] at gn
    refine (jc_remove2 l EV (t := (24, i)) (u := (25, 8 * i + (n - 1))) (w := (25, 8 * i + (n - 2))) (by simp) (by simp) (by simp; omega) M trivial (gL3 g1 gn (g2 (n - 2) (by omega) (by omega)))).mono (fun v M' ⟨L', ⟨e1, e2⟩, hL, hF⟩ => ⟨e1, ?_, hF.to (tLL_3 (by omega) (by omega))⟩) gNo.x
    subst e2
    refine ⟨m', ns, by omega, hm1, ?_, fun p q1 q2 => ?_⟩
    · rw [hm2, if_neg (by omega), if_neg (by omega)]
      have h9 := hL.at (i := 0) rfl
      rw [show ((n - 1 : Nat) : Int) = (n : Int) - 1 by omega]
      exact h9
    · show M' (ns p) = some ((25, 8 * i + p), .inr (8, [.ref (f p), gNx ns (n - 1) p, gPv ns p]))
      by_cases hp : p = n - 2
      · subst hp
        have h9 := hL.at (i := 2) rfl
        rw [gNx_0 (by omega)]
        exact h9
      · have h9 := hF _ _ _ (g2 p q1 (by omega)) (fun z => by rcases z with z | z | z <;> simp at z <;> omega)
        rw [gNx_1 (by omega)] at h9
        rw [gNx_1 (by omega)]
        exact h9
end
