/-! THE SYSTEM's lists: calls of the JDK's lists by ids -/
theorem TD.app {EV : gEV} {M M' : gM} {A : gAd} {U U' : gV} {i N : Nat} {f' : Nat → Nat} (h : TD EV M A U) (hF : gFr (tAL i) M M') (hA : gAL EV M' i (A 30 i) N f') (hs : ∀ t, sC EV A U' t = sC EV A U t) (hi : ∀ i', i' ≠ i → (alL U' i' → alL U i') ∧ alN U' i' = alN U i' ∧ ∀ j, alF A U' i' j = alF A U i' j)
    (hn : (alN U' i).toNat = N) (hf : ∀ j, j < N → alF A U' i j = f' j) (hl : (∀ i, llL U' i → llL U i) ∧ (∀ i, llN U' i = llN U i) ∧ ∀ i j, llF A U' i j = llF A U i j) : TD EV M' A U' := by
  refine ⟨fun t e he => ?_, fun i' h' => ?_, fun i' h' => ?_⟩
  · rw [hs t] at he
    have h2 := sC_lt he
    exact hF _ _ _ (h.1 t e he) (fun z => by rcases z with z | z; (rw [z] at h2; simp at h2); omega)
  · by_cases e : i' = i
    · subst e
      rw [hn]
      exact hA.cf hf
    · obtain ⟨g1, g2, g3⟩ := hi i' e
      rw [g2, show alF A U' i' = alF A U i' from funext g3]
      refine (h.2.1 i' (g1 h')).fr hF (fun z => ?_) (fun p z => ?_)
      · rcases z with z | ⟨z, -⟩
        · exact e (congrArg Prod.snd z)
        · simp at z
      · rcases z with z | ⟨-, z⟩
        · have := congrArg Prod.fst z
          simp at this
          omega
        · exact e z
  · rw [hl.2.1 i', show llF A U' i' = llF A U i' from funext (hl.2.2 i')]
    refine (h.2.2 i' (hl.1 i' h')).fr hF (fun z => ?_) (fun p hp z => ?_)
    · rcases z with z | ⟨z, -⟩
      · simp at z
      · simp at z
    · rcases z with z | ⟨z, -⟩
      · simp at z
      · simp at z
section
variable (l : Launch) (EV : gEV) {A : gAd} {U : gV} {i : Nat}
theorem tF_loc : ∀ t, tF t → tLoc t := fun _ h => h.elim
theorem tc_alsize (hi : alL U i) (hn : 0 ≤ alN U i) : TC l yJ2_size cJ2_size 1 (some .int) 1 0 0 EV tF [.ref (A 30 i)] A U [] (rV (some (.int (iI (alN U i)))) A U []) rNo := by
  intro M hD hL
  refine (al_size l EV (hD.2.1 i hi)).mono (fun v M' ⟨e1, hF⟩ => ⟨A, U, [], ⟨?_, rfl, rfl, rfl⟩, hD.loc hF tF_loc, fun x hx => (List.not_mem_nil hx).elim, hF⟩) gNo.x
  rw [e1, show (((alN U i).toNat : Nat) : Int) = alN U i by omega]
theorem tc_alget (hi : alL U i) (hn : alN U i ≤ 100) {x : Int} (hx : 0 ≤ x ∧ x < alN U i) : TC l yJ2_get cJ2_get 2 (some (.object "java/lang/Object")) 4 0 0 EV tF [.ref (A 30 i), .int (iI x)] A U [] (rV (some (.ref (alF A U i x.toNat))) A U []) rNo := by
  intro M hD hL
  exact (al_get l EV (hD.2.1 i hi) (x := x) (by omega) (by omega)).mono (fun v M' ⟨e1, hF⟩ => ⟨A, U, [], ⟨e1, rfl, rfl, rfl⟩, hD.loc hF tF_loc, fun x hx => (List.not_mem_nil hx).elim, hF⟩) gNo.x
theorem tO_loc {u : gTag} (hu : 70 ≤ u.1 ∧ u.1 < 100) : ∀ t, tO u t → tLoc t := fun t h => by rw [h]; exact hu
theorem tc_aliter (hi : alL U i) (u : gTag) (hu : 70 ≤ u.1 ∧ u.1 < 100) : TC l yJ2_iterator cJ2_iterator 1 (some (.object "java/util/Iterator")) 4 1 4 EV (tO u) [.ref (A 30 i)] A U [] (fun w A' U' L' => ∃ q : Nat, w = some (.ref q) ∧ A' = A ∧ U' = U ∧ L' = [(q, u, itA (A 30 i) (alN U i).toNat 0)]) rNo := by
  intro M hD hL
  exact (al_iter l EV (hD.2.1 i hi) u hu.1).mono (fun v M' ⟨q, e1, e2, hF⟩ => ⟨A, U, _, ⟨q, e1, rfl, rfl, rfl⟩, hD.loc hF (tO_loc hu), gL1 e2, hF⟩) gNo.x
theorem tc_alhas (hi : alL U i) (hn : 0 ≤ alN U i ∧ alN U i ≤ 100) {u : gTag} {q k : Nat} (hk : (k : Int) ≤ alN U i) : TC l yJ35_hasNext cJ35_hasNext 1 (some .boolean) 1 0 0 EV tF [.ref q] A U [(q, u, itA (A 30 i) (alN U i).toNat k)] (rV (some (.int (iI (bI (¬ (k : Int) = alN U i))))) A U [(q, u, itA (A 30 i) (alN U i).toNat k)]) rNo := by
  intro M hD hL
  refine (al_has l EV (hD.2.1 i hi) (by omega) (by omega) (hL.at (i := 0) rfl)).mono (fun v M' ⟨e1, hF⟩ => ⟨A, U, _, ⟨?_, rfl, rfl, rfl⟩, hD.loc hF tF_loc, hL.fr hF (fun _ _ h => h), hF⟩) gNo.x
  rw [e1, show (((alN U i).toNat : Nat) : Int) = alN U i by omega]
theorem tc_alnext (hi : alL U i) (hn : alN U i ≤ 100) {u : gTag} (hu : 70 ≤ u.1 ∧ u.1 < 100) {q k : Nat} (hk : (k : Int) < alN U i) : TC l yJ35_next cJ35_next 3 (some (.object "java/lang/Object")) 2 0 0 EV (tO u) [.ref q] A U [(q, u, itA (A 30 i) (alN U i).toNat k)] (rV (some (.ref (alF A U i k))) A U [(q, u, itA (A 30 i) (alN U i).toNat (k + 1))]) rNo := by
  intro M hD hL
  exact (al_next l EV (hD.2.1 i hi) (by omega) hu (by omega) (hL.at (i := 0) rfl)).mono (fun v M' ⟨e1, e2, hF⟩ => ⟨A, U, _, ⟨e1, rfl, rfl, rfl⟩, hD.loc hF (tO_loc hu), gL1 e2, hF⟩) gNo.x
/-- linked lists -/
theorem tc_llsize (hi : llL U i) (hn : 0 ≤ llN U i) : TC l yJ7_size cJ7_size 1 (some .int) 1 0 0 EV tF [.ref (A 24 i)] A U [] (rV (some (.int (iI (llN U i)))) A U []) rNo := by
  intro M hD hL
  refine (ll_size l EV (hD.2.2 i hi)).mono (fun v M' ⟨e1, hF⟩ => ⟨A, U, [], ⟨?_, rfl, rfl, rfl⟩, hD.loc hF tF_loc, fun x hx => (List.not_mem_nil hx).elim, hF⟩) gNo.x
  rw [e1, show (((llN U i).toNat : Nat) : Int) = llN U i by omega]
theorem tc_llempty (hi : llL U i) (hn : 0 ≤ llN U i) : TC l yJ0_isEmpty cJ0_isEmpty 1 (some .boolean) 2 0 0 EV tF [.ref (A 24 i)] A U [] (rV (some (.int (iI (bI (llN U i = 0))))) A U []) rNo := by
  intro M hD hL
  refine (ll_empty l EV (hD.2.2 i hi)).mono (fun v M' ⟨e1, hF⟩ => ⟨A, U, [], ⟨?_, rfl, rfl, rfl⟩, hD.loc hF tF_loc, fun x hx => (List.not_mem_nil hx).elim, hF⟩) gNo.x
  rw [e1, show (((llN U i).toNat : Nat) : Int) = llN U i by omega]
theorem tc_llget (hi : llL U i) {x : Int} (hx : 0 ≤ x ∧ x < llN U i) : TC l yJ7_get cJ7_get 2 (some (.object "java/lang/Object")) 3 0 0 EV tF [.ref (A 24 i), .int (iI x)] A U [] (rV (some (.ref (llF A U i x.toNat))) A U []) rNo := by
  intro M hD hL
  exact (ll_get l EV (hD.2.2 i hi) (x := x) (by omega)).mono (fun v M' ⟨e1, hF⟩ => ⟨A, U, [], ⟨e1, rfl, rfl, rfl⟩, hD.loc hF tF_loc, fun x hx => (List.not_mem_nil hx).elim, hF⟩) gNo.x
theorem tc_lllast (hi : llL U i) (hn : 0 < llN U i) : TC l yJ7_getLast cJ7_getLast 2 (some (.object "java/lang/Object")) 1 0 0 EV tF [.ref (A 24 i)] A U [] (rV (some (.ref (llF A U i ((llN U i).toNat - 1)))) A U []) rNo := by
  intro M hD hL
  exact (ll_last l EV (hD.2.2 i hi) (by omega)).mono (fun v M' ⟨e1, hF⟩ => ⟨A, U, [], ⟨e1, rfl, rfl, rfl⟩, hD.loc hF tF_loc, fun x hx => (List.not_mem_nil hx).elim, hF⟩) gNo.x
end
