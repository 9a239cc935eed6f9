/-! lists by their numbers; iterators over linked lists -/
section
variable (l : Launch) (EV : gEV) {A : gAd} {U : gV} {i : Nat}
theorem tc_aliterN (hi : alL U i) {n : Int} (hN : alN U i = n) (u : gTag) (hu : 70 ≤ u.1 ∧ u.1 < 100) : TC l yJ2_iterator cJ2_iterator 1 (some (.object "java/util/Iterator")) 4 1 4 EV (tO u) [.ref (A 30 i)] A U [] (fun w A' U' L' => ∃ q : Nat, w = some (.ref q) ∧ A' = A ∧ U' = U ∧ L' = [(q, u, itA (A 30 i) n.toNat 0)]) rNo := by
  subst hN
  exact tc_aliter l EV hi u hu
theorem tc_alhasN (hi : alL U i) {n : Int} (hN : alN U i = n) (hn : 0 ≤ n ∧ n ≤ 100) {u : gTag} {q k : Nat} (hk : (k : Int) ≤ n) : TC l yJ35_hasNext cJ35_hasNext 1 (some .boolean) 1 0 0 EV tF [.ref q] A U [(q, u, itA (A 30 i) n.toNat k)] (rV (some (.int (iI (bI (¬ (k : Int) = n))))) A U [(q, u, itA (A 30 i) n.toNat k)]) rNo := by
  subst hN
  exact tc_alhas l EV hi hn hk
theorem tc_alnextN (hi : alL U i) {n : Int} (hN : alN U i = n) (hn : n ≤ 100) {u : gTag} (hu : 70 ≤ u.1 ∧ u.1 < 100) {q k : Nat} (hk : (k : Int) < n) {y : Nat} (hf : alF A U i k = y) : TC l yJ35_next cJ35_next 3 (some (.object "java/lang/Object")) 2 0 0 EV (tO u) [.ref q] A U [(q, u, itA (A 30 i) n.toNat k)] (rV (some (.ref y)) A U [(q, u, itA (A 30 i) n.toNat (k + 1))]) rNo := by
  subst hN; subst hf
  exact tc_alnext l EV hi hn hu hk
theorem alF_o {c j : Nat} : alF A U (100 + c) j = A 14 (U 32 (2 * c + j)).toNat := by
  unfold alF
  rw [if_neg (by omega), if_neg (by omega), if_neg (by omega), if_neg (by omega), if_neg (by omega), if_neg (by omega), if_neg (by omega), show 100 + c - 100 = c by omega]
theorem tc_algetN (hi : alL U i) {n : Int} (hN : alN U i = n) (hn : n ≤ 100) {x : Int} (hx : 0 ≤ x ∧ x < n) {y : Nat} (hf : alF A U i x.toNat = y) : TC l yJ2_get cJ2_get 2 (some (.object "java/lang/Object")) 4 0 0 EV tF [.ref (A 30 i), .int (iI x)] A U [] (rV (some (.ref y)) A U []) rNo := by
  subst hN; subst hf
  exact tc_alget l EV hi hn hx
/-- a linked list's iterator cell: list i at a, changed m times, nodes ns, before the k-th of n -/
def itL (m : Int) (ns : Nat → Nat) (lr : Value) (a n k : Nat) : va_E := .inr (17, [lr, if k < n then .ref (ns k) else .null, .int (iI (k : Int)), .int (iI m), .ref a])
theorem ll_iter2 {M : gM} {a n : Nat} {f : Nat → Nat} (h : gLk M i a n f) (u : gTag) (hu : 70 ≤ u.1) : GC l yJ6_iterator (ws_ yJ6_iterator cJ6_iterator 1 (some (.object "java/util/Iterator"))) 6 1 5 EV [.ref a] M (fun w M' => ∃ (q : Nat) (m : Int) (ns : Nat → Nat) (lr : Value), w = some (.ref q) ∧ gLn M' i a n f m ns ∧ M' q = some (u, itL m ns lr a n 0) ∧ gFr (tO u) M M') gNo :=
  (ll_iter l EV h u hu).mono (fun v M' ⟨q, e1, ⟨m, ns, lr, g1, g2⟩, hF⟩ => ⟨q, m, ns, lr, e1, g1, g2, hF⟩) gNo.x
theorem tc_lliter (hi : llL U i) (u : gTag) (hu : 70 ≤ u.1 ∧ u.1 < 100) : TC l yJ6_iterator cJ6_iterator 1 (some (.object "java/util/Iterator")) 6 1 5 EV (tO u) [.ref (A 24 i)] A U [] (fun w A' U' L' => ∃ (q : Nat) (m : Int) (ns : Nat → Nat) (lr : Value), w = some (.ref q) ∧ A' = A ∧ U' = U ∧ L' = [(q, u, itL m ns lr (A 24 i) (llN U i).toNat 0), (A 24 i, (24, i), .inr (2, [.int (iI m), .int (iI (((llN U i).toNat : Nat) : Int)), if (llN U i).toNat = 0 then .null else .ref (ns 0), if (llN U i).toNat = 0 then .null else .ref (ns ((llN U i).toNat - 1))]))]) rNo := by
  intro M hD hL
  exact (ll_iter2 l EV (hD.2.2 i hi) u hu.1).mono (fun v M' ⟨q, m, ns, lr, e1, g1, g2, hF⟩ => ⟨A, U, _, ⟨q, m, ns, lr, e1, rfl, rfl, rfl⟩, hD.loc hF (tO_loc hu), gL2 g2 g1.2.2.1, hF⟩) gNo.x
end
/-- two accounts of one linked list have the same nodes -/
theorem gLn.same {M : gM} {i a n n' : Nat} {f f' : Nat → Nat} {m m' : Int} {ns ns' : Nat → Nat} (h : gLn M i a n f m ns) (h' : gLn M i a n' f' m' ns') : n = n' ∧ m = m' ∧ ∀ p, p < n → ns p = ns' p ∧ f p = f' p := by
  obtain ⟨g0, g1, g2, g3⟩ := h
  obtain ⟨k0, k1, k2, k3⟩ := h'
  have e := Option.some.inj (g2.symm.trans k2)
  have e2 := congrArg Prod.snd e
  injection e2 with e3
  have e4 := congrArg Prod.snd e3
  injection e4 with q1 q2
  injection q2 with q2 q3
  injection q3 with q3 q4
  injection q1 with q1
  injection q2 with q2
  have hm : m = m' := by
    have := congrArg Int32.toInt q1
    rwa [iI_t g1, iI_t k1] at this
  have hn : n = n' := by
    have := congrArg Int32.toInt q2
    rw [iI_t (by omega), iI_t (by omega)] at this
    omega
  subst hn; subst hm
  refine ⟨rfl, rfl, fun p hp => ?_⟩
  induction p with
  | zero =>
    rw [if_neg (by omega), if_neg (by omega)] at q3
    injection q3 with q3
    have a1 := g3 0 (by omega) hp
    have a2 := k3 0 (by omega) hp
    unfold gNd at a1 a2
    simp only at a1 a2
    rw [← q3] at a2
    have a3 := Option.some.inj (a1.symm.trans a2)
    have a4 := congrArg Prod.snd a3
    injection a4 with a5
    have a6 := congrArg Prod.snd a5
    injection a6 with a7 _
    injection a7 with a8
    exact ⟨q3, a8⟩
  | succ p ih =>
    have ih := ih (by omega)
    have a1 := g3 p (by omega) (by omega)
    have a2 := k3 p (by omega) (by omega)
    unfold gNd at a1 a2
    simp only at a1 a2
    rw [← ih.1, gNx_1 hp] at a2
    rw [gNx_1 hp] at a1
    have a3 := Option.some.inj (a1.symm.trans a2)
    have a4 := congrArg Prod.snd a3
    injection a4 with a5
    have a6 := congrArg Prod.snd a5
    injection a6 with a7 a9
    injection a9 with b1 b2
    injection b1 with b3
    have c1 := g3 (p + 1) (by omega) (by omega)
    have c2 := k3 (p + 1) (by omega) (by omega)
    unfold gNd at c1 c2
    simp only at c1 c2
    rw [← b3] at c2
    have c3 := Option.some.inj (c1.symm.trans c2)
    have c4 := congrArg Prod.snd c3
    injection c4 with c5
    have c6 := congrArg Prod.snd c5
    injection c6 with c7 _
    injection c7 with c8
    exact ⟨b3, c8⟩
section
variable (l : Launch) (EV : gEV) {M M1 : gM} {A : gAd} {U : gV} {T1 : gTag → Prop} {i a n : Nat} {f ns : Nat → Nat} {m : Int} {lr : Value}
theorem ll_has2 {q k : Nat} {u : gTag} (h : gLn M i a n f m ns) (hq : M q = some (u, itL m ns lr a n k)) (hk : k ≤ n) : GC l yJ39_hasNext (ws_ yJ39_hasNext cJ39_hasNext 1 (some .boolean)) 1 0 0 EV [.ref q] M (fun w M' => w = some (.int (iI (bI ((k : Int) < n)))) ∧ gFr tF M M') gNo := by
  obtain ⟨g0, g3, g1, g2⟩ := h
  exact (jc_J39_hasNext l EV (by omega) (by omega) M trivial (gL2 hq g1)).mono (fun v M' ⟨L', ⟨e1, e2⟩, hL, hF⟩ => ⟨e1, hF⟩) gNo.x
theorem ll_next2 {q k : Nat} {u : gTag} (hu : 70 ≤ u.1) (h : gLn M i a n f m ns) (hq : M q = some (u, itL m ns lr a n k)) (hk : k < n) : GC l yJ39_next (ws_ yJ39_next cJ39_next 1 (some (.object "java/lang/Object"))) 2 0 0 EV [.ref q] M (fun w M' => w = some (.ref (f k)) ∧ M' q = some (u, itL m ns (.ref (ns k)) a n (k + 1)) ∧ gFr (tO u) M M') gNo := by
  obtain ⟨g0, g3, g1, g2⟩ := h
  have hut : u ≠ (24, i) := fun e => by rw [e] at hu; simp at hu
  have hup : ∀ p, u ≠ (25, 8 * i + p) := fun p e => by rw [e] at hu; simp at hu
  unfold itL at hq
  rw [if_pos hk] at hq
  have g1' := g1
  rw [if_neg (by omega), if_neg (by omega)] at g1'
  refine (jc_J39_next l EV hk g0 hut (fun p _ => hup p) g3 M g2 (gL2 hq g1')).mono (fun v M' ⟨L', ⟨e1, e2⟩, hL, hF⟩ => ⟨e1, ?_, hF⟩) gNo.x
  subst e2
  exact hL.at (i := 0) rfl
theorem tm_llhas {q k : Nat} {u : gTag} (G : gLn M1 i a n f m ns) (h1 : ¬ T1 (24, i)) (h2 : ∀ p, p < 6 → ¬ T1 (25, 8 * i + p)) (hk : k ≤ n) : ∀ M, TD EV M A U → gL M [(q, u, itL m ns lr a n k)] → gFr T1 M1 M →
    GC l yJ39_hasNext (ws_ yJ39_hasNext cJ39_hasNext 1 (some .boolean)) 1 0 0 EV [.ref q] M (tP EV tF M (rV (some (.int (iI (bI ((k : Int) < n))))) A U [(q, u, itL m ns lr a n k)])) (tX EV tF M A U rNo) :=
  fun M hD hL hF0 => (ll_has2 l EV (G.fr hF0 h1 h2) (hL.at (i := 0) rfl) hk).mono (fun v M' ⟨e1, hF⟩ => ⟨A, U, _, ⟨e1, rfl, rfl, rfl⟩, hD.loc hF tF_loc, hL.fr hF (fun _ _ h => h), hF⟩) gNo.x
theorem tm_llnext {q k : Nat} {u : gTag} (hu : 70 ≤ u.1 ∧ u.1 < 100) (G : gLn M1 i a n f m ns) (h1 : ¬ T1 (24, i)) (h2 : ∀ p, p < 6 → ¬ T1 (25, 8 * i + p)) (hk : k < n) : ∀ M, TD EV M A U → gL M [(q, u, itL m ns lr a n k)] → gFr T1 M1 M →
    GC l yJ39_next (ws_ yJ39_next cJ39_next 1 (some (.object "java/lang/Object"))) 2 0 0 EV [.ref q] M (tP EV (tO u) M (rV (some (.ref (f k))) A U [(q, u, itL m ns (.ref (ns k)) a n (k + 1))])) (tX EV (tO u) M A U rNo) :=
  fun M hD hL hF0 => (ll_next2 l EV hu.1 (G.fr hF0 h1 h2) (hL.at (i := 0) rfl) hk).mono (fun v M' ⟨e1, e2, hF⟩ => ⟨A, U, _, ⟨e1, rfl, rfl, rfl⟩, hD.loc hF (tO_loc hu), gL1 e2, hF⟩) gNo.x
end
