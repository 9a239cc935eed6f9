/-! the words of calls on the constants of the enum -/
theorem ecX10_54_X11 : gLkC RX10 54 "TrunkYards$State" "TrunkYards$State" ⟨"TrunkYards$State", "promises", "()Z"⟩ yX11_promises cX11_promises := ⟨q1994, q1997, q1995, ⟨_, _, _, q2005⟩, q1996, q1995, q2005, by decide, by decide +kernel, by decide +kernel⟩
theorem ecX10_54_X15 : gLkC RX10 54 "TrunkYards$State$1" "TrunkYards$State" ⟨"TrunkYards$State", "promises", "()Z"⟩ yX11_promises cX11_promises := ⟨q1994, q1997, q1995, ⟨_, _, _, q2005⟩, q1998, q1995, q2005, by decide, by decide +kernel, by decide +kernel⟩
theorem ecX10_54_X16 : gLkC RX10 54 "TrunkYards$State$2" "TrunkYards$State" ⟨"TrunkYards$State", "promises", "()Z"⟩ yX16_promises cX16_promises := ⟨q1994, q1997, q1995, ⟨_, _, _, q2005⟩, q1999, q2000, q2001, by decide, by decide +kernel, by decide +kernel⟩
theorem ecX10_54_X17 : gLkC RX10 54 "TrunkYards$State$3" "TrunkYards$State" ⟨"TrunkYards$State", "promises", "()Z"⟩ yX17_promises cX17_promises := ⟨q1994, q1997, q1995, ⟨_, _, _, q2005⟩, q2002, q2003, q2004, by decide, by decide +kernel, by decide +kernel⟩
theorem ecX1_311_X11 : gLkC RX1 311 "TrunkYards$State" "TrunkYards$State" ⟨"TrunkYards$State", "canDepart", "()Z"⟩ yX11_canDepart cX11_canDepart := ⟨q2225, q2228, q2226, ⟨_, _, _, q2234⟩, q2227, q2226, q2234, by decide, by decide +kernel, by decide +kernel⟩
theorem ecX1_311_X15 : gLkC RX1 311 "TrunkYards$State$1" "TrunkYards$State" ⟨"TrunkYards$State", "canDepart", "()Z"⟩ yX15_canDepart cX15_canDepart := ⟨q2225, q2228, q2226, ⟨_, _, _, q2234⟩, q2229, q2230, q2231, by decide, by decide +kernel, by decide +kernel⟩
theorem ecX1_311_X16 : gLkC RX1 311 "TrunkYards$State$2" "TrunkYards$State" ⟨"TrunkYards$State", "canDepart", "()Z"⟩ yX11_canDepart cX11_canDepart := ⟨q2225, q2228, q2226, ⟨_, _, _, q2234⟩, q2232, q2226, q2234, by decide, by decide +kernel, by decide +kernel⟩
theorem ecX1_311_X17 : gLkC RX1 311 "TrunkYards$State$3" "TrunkYards$State" ⟨"TrunkYards$State", "canDepart", "()Z"⟩ yX11_canDepart cX11_canDepart := ⟨q2225, q2228, q2226, ⟨_, _, _, q2234⟩, q2233, q2226, q2234, by decide, by decide +kernel, by decide +kernel⟩
theorem eoX1_307_X11 : gLkO RX1 307 "TrunkYards$State" "java/lang/Enum" ⟨"TrunkYards$State", "ordinal", "()I"⟩ yJ36_ordinal cJ36_ordinal 1 (some .int) 0 := ⟨Or.inl ⟨lw_app (fun w hw => by simp only [List.mem_cons, List.not_mem_nil, or_false] at hw; rcases hw with e | e | e | e | e <;> rw [e] <;> first | exact q2104 | exact q2105 | exact q2107 | exact q2111 | exact q98) (lw_meth q2112), rfl⟩, by decide +kernel, by decide +kernel⟩
theorem eoX1_307_X15 : gLkO RX1 307 "TrunkYards$State$1" "java/lang/Enum" ⟨"TrunkYards$State", "ordinal", "()I"⟩ yJ36_ordinal cJ36_ordinal 1 (some .int) 0 := ⟨Or.inl ⟨lw_app (fun w hw => by simp only [List.mem_cons, List.not_mem_nil, or_false] at hw; rcases hw with e | e | e | e | e <;> rw [e] <;> first | exact q2104 | exact q2105 | exact q2108 | exact q2111 | exact q98) (lw_meth q2112), rfl⟩, by decide +kernel, by decide +kernel⟩
theorem eoX1_307_X16 : gLkO RX1 307 "TrunkYards$State$2" "java/lang/Enum" ⟨"TrunkYards$State", "ordinal", "()I"⟩ yJ36_ordinal cJ36_ordinal 1 (some .int) 0 := ⟨Or.inl ⟨lw_app (fun w hw => by simp only [List.mem_cons, List.not_mem_nil, or_false] at hw; rcases hw with e | e | e | e | e <;> rw [e] <;> first | exact q2104 | exact q2105 | exact q2109 | exact q2111 | exact q98) (lw_meth q2112), rfl⟩, by decide +kernel, by decide +kernel⟩
theorem eoX1_307_X17 : gLkO RX1 307 "TrunkYards$State$3" "java/lang/Enum" ⟨"TrunkYards$State", "ordinal", "()I"⟩ yJ36_ordinal cJ36_ordinal 1 (some .int) 0 := ⟨Or.inl ⟨lw_app (fun w hw => by simp only [List.mem_cons, List.not_mem_nil, or_false] at hw; rcases hw with e | e | e | e | e <;> rw [e] <;> first | exact q2104 | exact q2105 | exact q2110 | exact q2111 | exact q98) (lw_meth q2112), rfl⟩, by decide +kernel, by decide +kernel⟩
theorem gc_ordinal (l : Launch) (EV : gEV) (M : gM) {i : Nat} (hi : i < 6) : GC l yJ36_ordinal (ws_ yJ36_ordinal cJ36_ordinal 1 (some .int)) 1 0 0 EV [.ref (EV.2.2.2 (10 + i))] M (fun w M' => w = some (.int (iI (i : Int))) ∧ M' = M) gNo := by
  refine g_body tbJ36_ordinal tkJ36_ordinal (by decide) (by intro v hv; simp only [List.mem_cons, List.not_mem_nil, or_false] at hv; rcases hv with rfl <;> rfl) (Nat.le_of_ble_eq_true rfl) (fun z Q X hl hR hQ hE => ?_)
  refine gG_eq (ls' := [some (.ref (EV.2.2.2 (10 + i)))]) (st' := []) rfl rfl ?_
  refine g_run X 1 (pc1 := 1) (ls1 := [_]) (st1 := [_]) rfl ?_
  refine g_ord X hi rfl q2749 ?_
  exact g_iret X hQ rfl rfl (Nat.le_refl _) (Nat.le_refl _) ⟨by rw [iI_ofNat], rfl⟩
section GT
variable {z : gZ} {S : gS} {EV : gEV} {Q : State → Prop} {M0 : gM} {T : gTag → Prop} {A : gAd} {U : gV} {L : gLL} {k n pc : Nat} {ls : List (Option Value)} {rest : List Value} {mc ms d : Nat}
theorem t_ordinal (X : CX z S EV) (hO : S.2.1 = RX1) {i : Nat} (hi : i < 6) (hT : S.2.2.2.2.1 pc = some (.invokevirtual 307, 3)) (hw : (rest.map fun v => v.category).sum ≤ 8) (hf : gFit z k n 1 0 0) (kk : gTd z S EV Q T M0 A U L k n (pc + 3) ls (.int (iI (i : Int)) :: rest)) : gTd z S EV Q T M0 A U L k n pc ls (.ref (EV.2.2.2 (10 + i)) :: rest) := by
  intro M h1 h2 h3
  have go : ∀ {C : String}, (gEnum i).2 = C → gLkO RX1 307 C "java/lang/Enum" ⟨"TrunkYards$State", "ordinal", "()I"⟩ yJ36_ordinal cJ36_ordinal 1 (some .int) 0 → gG z S EV Q M k n pc ls (.ref (EV.2.2.2 (10 + i)) :: rest) := fun hC L9 => g_callO X hi hC hT (by rw [hO]; exact L9) (gc_ordinal z.2.1 EV M hi) (As := []) rfl rfl hw hf (fun _ _ h => h.elim) (fun v M' ⟨e1, e2⟩ => by subst e1; subst e2; exact kk _ h1 h2 h3)
  rcases (by omega : i = 0 ∨ i = 1 ∨ i = 2 ∨ i = 3 ∨ i = 4 ∨ i = 5) with rfl | rfl | rfl | rfl | rfl | rfl
  · exact go rfl eoX1_307_X11
  · exact go rfl eoX1_307_X11
  · exact go rfl eoX1_307_X15
  · exact go rfl eoX1_307_X11
  · exact go rfl eoX1_307_X16
  · exact go rfl eoX1_307_X17
theorem t_promises (X : CX z S EV) (hO : S.2.1 = RX10) {i : Nat} (hi : i < 6) (hT : S.2.2.2.2.1 pc = some (.invokevirtual 54, 3)) (hw : (rest.map fun v => v.category).sum ≤ 8) (hf : 1 ≤ z.2.2.2.1.frames ∧ 64 ≤ z.2.2.2.1.locals) (kk : gTd z S EV Q T M0 A U L k n (pc + 3) ls (.int (iI (bI (¬ (i = 4 ∨ i = 5)))) :: rest)) : gTd z S EV Q T M0 A U L k n pc ls (.ref (EV.2.2.2 (10 + i)) :: rest) := by
  intro M h1 h2 h3
  have k9 := kk M h1 h2 h3
  rcases (by omega : i = 0 ∨ i = 1 ∨ i = 2 ∨ i = 3 ∨ i = 4 ∨ i = 5) with rfl | rfl | rfl | rfl | rfl | rfl
  · exact g_callC X hi rfl hT (by rw [hO]; exact ecX10_54_X11) (tkX11_promises 0 _ rfl) (tkX11_promises 1 _ rfl) (Or.inr rfl) hw hf k9
  · exact g_callC X hi rfl hT (by rw [hO]; exact ecX10_54_X11) (tkX11_promises 0 _ rfl) (tkX11_promises 1 _ rfl) (Or.inr rfl) hw hf k9
  · exact g_callC X hi rfl hT (by rw [hO]; exact ecX10_54_X15) (tkX11_promises 0 _ rfl) (tkX11_promises 1 _ rfl) (Or.inr rfl) hw hf k9
  · exact g_callC X hi rfl hT (by rw [hO]; exact ecX10_54_X11) (tkX11_promises 0 _ rfl) (tkX11_promises 1 _ rfl) (Or.inr rfl) hw hf k9
  · exact g_callC X hi rfl hT (by rw [hO]; exact ecX10_54_X16) (tkX16_promises 0 _ rfl) (tkX16_promises 1 _ rfl) (Or.inl rfl) hw hf k9
  · exact g_callC X hi rfl hT (by rw [hO]; exact ecX10_54_X17) (tkX17_promises 0 _ rfl) (tkX17_promises 1 _ rfl) (Or.inl rfl) hw hf k9
theorem t_canDep (X : CX z S EV) (hO : S.2.1 = RX1) {i : Nat} (hi : i < 6) (hT : S.2.2.2.2.1 pc = some (.invokevirtual 311, 3)) (hw : (rest.map fun v => v.category).sum ≤ 8) (hf : 1 ≤ z.2.2.2.1.frames ∧ 64 ≤ z.2.2.2.1.locals) (kk : gTd z S EV Q T M0 A U L k n (pc + 3) ls (.int (iI (bI (i = 2))) :: rest)) : gTd z S EV Q T M0 A U L k n pc ls (.ref (EV.2.2.2 (10 + i)) :: rest) := by
  intro M h1 h2 h3
  have k9 := kk M h1 h2 h3
  rcases (by omega : i = 0 ∨ i = 1 ∨ i = 2 ∨ i = 3 ∨ i = 4 ∨ i = 5) with rfl | rfl | rfl | rfl | rfl | rfl
  · exact g_callC X hi rfl hT (by rw [hO]; exact ecX1_311_X11) (tkX11_canDepart 0 _ rfl) (tkX11_canDepart 1 _ rfl) (Or.inl rfl) hw hf k9
  · exact g_callC X hi rfl hT (by rw [hO]; exact ecX1_311_X11) (tkX11_canDepart 0 _ rfl) (tkX11_canDepart 1 _ rfl) (Or.inl rfl) hw hf k9
  · exact g_callC X hi rfl hT (by rw [hO]; exact ecX1_311_X15) (tkX15_canDepart 0 _ rfl) (tkX15_canDepart 1 _ rfl) (Or.inr rfl) hw hf k9
  · exact g_callC X hi rfl hT (by rw [hO]; exact ecX1_311_X11) (tkX11_canDepart 0 _ rfl) (tkX11_canDepart 1 _ rfl) (Or.inl rfl) hw hf k9
  · exact g_callC X hi rfl hT (by rw [hO]; exact ecX1_311_X16) (tkX11_canDepart 0 _ rfl) (tkX11_canDepart 1 _ rfl) (Or.inl rfl) hw hf k9
  · exact g_callC X hi rfl hT (by rw [hO]; exact ecX1_311_X17) (tkX11_canDepart 0 _ rfl) (tkX11_canDepart 1 _ rfl) (Or.inl rfl) hw hf k9
end GT
