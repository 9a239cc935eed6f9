/-! THE JDK's linked lists over the whole picture: iterators, clear, a list out of another; deques; maps -/
section
variable (l : Launch) (EV : gEV) {M : gM} {i a n : Nat} {f : Nat → Nat}
/-- an iterator at q over the linked list i at a, before the k-th of n things -/
def gIt (M : gM) (q : Nat) (u : gTag) (i a n k : Nat) (f : Nat → Nat) : Prop := ∃ (m : Int) (ns : Nat → Nat) (lr : Value), gLn M i a n f m ns ∧ M q = some (u, .inr (17, [lr, if k < n then .ref (ns k) else .null, .int (iI (k : Int)), .int (iI m), .ref a]))
theorem gIt.fr {M' : gM} {T : gTag → Prop} {q k : Nat} {u : gTag} (h : gIt M q u i a n k f) (hF : gFr T M M') (h1 : ¬ T (24, i)) (h2 : ∀ p, p < 6 → ¬ T (25, 8 * i + p)) (h3 : ¬ T u) : gIt M' q u i a n k f := by
  obtain ⟨m, ns, lr, g1, g2⟩ := h
  exact ⟨m, ns, lr, g1.fr hF h1 h2, hF _ _ _ g2 h3⟩
theorem ll_iter (h : gLk M i a n f) (u : gTag) (hu : 70 ≤ u.1) : GC l yJ6_iterator (ws_ yJ6_iterator cJ6_iterator 1 (some (.object "java/util/Iterator"))) 6 1 5 EV [.ref a] M (fun w M' => ∃ q : Nat, w = some (.ref q) ∧ gIt M' q u i a n 0 f ∧ gFr (tO u) M M') gNo := by
  obtain ⟨m, ns, g0, g3, g1, g2⟩ := h
  have hut : u ≠ (24, i) := fun e => by rw [e] at hu; simp at hu
  have hup : ∀ p, u ≠ (25, 8 * i + p) := fun p e => by rw [e] at hu; simp at hu
  by_cases h0 : n = 0
  · subst h0
    rw [if_pos rfl] at g1
    refine (jc_iterE l EV u hut M trivial (gL1 g1)).mono (fun v M' ⟨L', ⟨q, e1, e2⟩, hL, hF⟩ => ⟨q, e1, ?_, hF⟩) gNo.x
    subst e2
    refine ⟨m, ns, _, ⟨g0, g3, ?_, fun p q1 q2 => absurd q2 (by omega)⟩, hL.at (i := 0) rfl⟩
    rw [if_pos rfl]
    exact hL.at (i := 1) rfl
  · rw [if_neg h0, if_neg h0] at g1
    refine (jc_iterN l EV (by omega) u hut (fun p _ => hup p) M g2 (gL1 g1)).mono (fun v M' ⟨L', ⟨q, e1, e2⟩, hL, hF⟩ => ⟨q, e1, ?_, hF⟩) gNo.x
    subst e2
    refine ⟨m, ns, .null, ⟨g0, g3, ?_, fun p q1 q2 => hF _ _ _ (g2 p q1 q2) (fun z => hup p z.symm)⟩, ?_⟩
    · rw [if_neg h0, if_neg h0]
      exact hL.at (i := 1) rfl
    · rw [if_pos (by omega)]
      exact hL.at (i := 0) rfl
theorem ll_has {q k : Nat} {u : gTag} (h : gIt M q u i a n k f) (hk : k ≤ n) : GC l yJ39_hasNext (ws_ yJ39_hasNext cJ39_hasNext 1 (some .boolean)) 1 0 0 EV [.ref q] M (fun w M' => w = some (.int (iI (bI ((k : Int) < n)))) ∧ gFr tF M M') gNo := by
  obtain ⟨m, ns, lr, ⟨g0, g3, g1, g2⟩, g4⟩ := h
  exact (jc_J39_hasNext l EV (by omega) (by omega) M trivial (gL2 g4 g1)).mono (fun v M' ⟨L', ⟨e1, e2⟩, hL, hF⟩ => ⟨e1, hF⟩) gNo.x
theorem ll_next {q k : Nat} {u : gTag} (hu : 70 ≤ u.1) (h : gIt M q u i a n k f) (hk : k < n) : GC l yJ39_next (ws_ yJ39_next cJ39_next 1 (some (.object "java/lang/Object"))) 2 0 0 EV [.ref q] M (fun w M' => w = some (.ref (f k)) ∧ gIt M' q u i a n (k + 1) f ∧ gFr (tO u) M M') gNo := by
  obtain ⟨m, ns, lr, ⟨g0, g3, g1, g2⟩, g4⟩ := h
  have hut : u ≠ (24, i) := fun e => by rw [e] at hu; simp at hu
  have hup : ∀ p, u ≠ (25, 8 * i + p) := fun p e => by rw [e] at hu; simp at hu
  rw [if_pos hk] at g4
  have g1' := g1
  rw [if_neg (by omega), if_neg (by omega)] at g1'
  refine (jc_J39_next l EV hk g0 hut (fun p _ => hup p) g3 M g2 (gL2 g4 g1')).mono (fun v M' ⟨L', ⟨e1, e2⟩, hL, hF⟩ => ⟨e1, ?_, hF⟩) gNo.x
  subst e2
  refine ⟨m, ns, .ref (ns k), ⟨g0, g3, hF _ _ _ g1 (fun z => hut z.symm), fun p q1 q2 => hF _ _ _ (g2 p q1 q2) (fun z => hup p z.symm)⟩, ?_⟩
  exact hL.at (i := 0) rfl
theorem ll_clear (h : gLk M i a n f) (hn : 0 < n) (g : Nat → Nat) : GC l yJ7_clear (ws_ yJ7_clear cJ7_clear 3 none) 1 0 0 EV [.ref a] M (fun w M' => w = none ∧ gLk M' i a 0 g ∧ gFr (tLL i) M M') gNo := by
  obtain ⟨m, ns, g0, g3, g1, g2⟩ := h
  obtain ⟨m', hm1, hm2⟩ := mod_in (m + 1)
  rw [if_neg (by omega), if_neg (by omega)] at g1
  refine (jc_clear l EV ⟨hn, g0⟩ M g2 (gL1 g1)).mono (fun v M' ⟨L', ⟨e1, e2⟩, hL, hF⟩ => ⟨e1, ?_, hF⟩) gNo.x
  subst e2
  refine ⟨m', ns, by omega, hm1, ?_, fun p q1 q2 => absurd q2 (by omega)⟩
  rw [hm2]
  exact hL.at (i := 0) rfl
/-- a new list j at b out of the list i at a -/
theorem ll_copy {b j : Nat} (h : gLk M i a n f) (hn : 0 < n) (hob : ∀ p, p < n → gOw M (f p)) (hb : M b = some ((24, j), .inr (2, [.int (iI 0), .int (iI 0), .null, .null]))) (hij : i ≠ j) (w : gTag) (hw : 70 ≤ w.1) : GC l yJ7_init_2 (ws_ yJ7_init_2 cJ7_init_2 2 none) 5 100 300 EV [.ref b, .ref a] M (fun v M' => v = none ∧ gLk M' j b n f ∧ gFr (tLLw j w) M M') gNo := by
  obtain ⟨m, ns, g0, g3, g1, g2⟩ := h
  have hut : ∀ x, (24, x) ≠ w := fun x e => by rw [← e] at hw; simp at hw
  have hup : ∀ p, w ≠ (25, p) := fun p e => by rw [e] at hw; simp at hw
  rw [if_neg (by omega), if_neg (by omega)] at g1
  refine (jc_init_2 l EV (f := f) ⟨hn, g0⟩ (hut i) (hut j) (fun p _ => hup _) (fun p _ => hup _) (by omega) hij M ⟨g2, hob⟩ (gL2 hb g1)).mono (fun v M' ⟨L', ⟨ns9, e1, e2⟩, hL, hF⟩ => ⟨e1, ?_, hF⟩) gNo.x
  subst e2
  refine ⟨0 + 1, ns9, g0, by omega, ?_, gL_kNs (fun x hx => hL x (List.mem_cons_of_mem _ hx))⟩
  have h9 := hL.at (i := 0) rfl
  rw [if_neg (by omega), if_neg (by omega)]
  rw [show (0 + (n : Int)) = (n : Int) by omega] at h9
  exact h9
end
