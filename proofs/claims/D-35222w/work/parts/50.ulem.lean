/-! lemmas for the walks that write -/
/-- everything but the reference -/
def tSys : gTag → Prop := fun t => ¬ t.1 = 9
section
variable (l : Launch) (EV : gEV) {A : gAd} {U : gV}
theorem tc_llemptyT {p : Int} (hp : 0 ≤ p ∧ p < 15) (hn : 0 ≤ U 6 p.toNat) : TC l yJ0_isEmpty cJ0_isEmpty 1 (some .boolean) 2 0 0 EV tF [.ref (A 24 p.toNat)] A U [] (rV (some (.int (iI (bI (U 6 p.toNat = 0))))) A U []) rNo := by
  have h := tc_llempty l EV (A := A) (U := U) (i := p.toNat) (Or.inl (by omega)) (by rw [llN_t (by omega)]; exact hn)
  have e : llN U p.toNat = U 6 p.toNat := llN_t (by omega)
  refine h.mono (fun _ h => h) (fun v A9 U9 L9 hh => ⟨hh.1.trans ?_, hh.2⟩) (fun _ h => h)
  congr 3
  unfold bI
  rw [e]
theorem tc_lllastT {p : Int} (hp : 0 ≤ p ∧ p < 15) (hn : 0 < U 6 p.toNat) : TC l yJ7_getLast cJ7_getLast 2 (some (.object "java/lang/Object")) 1 0 0 EV tF [.ref (A 24 p.toNat)] A U [] (rV (some (.ref (A 11 (U 7 (6 * p + (U 6 p.toNat - 1)).toNat).toNat))) A U []) rNo := by
  have h := tc_lllast l EV (A := A) (U := U) (i := p.toNat) (Or.inl (by omega)) (by rw [llN_t (by omega)]; exact hn)
  rw [llN_t (by omega), llF_t (by omega), show 6 * p.toNat + ((U 6 p.toNat).toNat - 1) = (6 * p + (U 6 p.toNat - 1)).toNat by omega] at h
  exact h
theorem uCN_r (U : gV) (c : Int) (k : Nat) : -1 ≤ uCN U c k ∧ uCN U c k < k := by
  induction k with
  | zero => unfold uCN; omega
  | succ k ih => unfold uCN; (repeat' split) <;> omega
end
section GT
variable {z : gZ} {S : gS} {EV : gEV} {Q : State → Prop} {M0 : gM} {T : gTag → Prop} {A : gAd} {U : gV} {L L9 : gLL} {k n pc : Nat} {ls : List (Option Value)} {st : List Value}
theorem t_drop (kk : gTd z S EV Q T M0 A U L k n pc ls st) : gTd z S EV Q T M0 A U (L9 ++ L) k n pc ls st :=
  fun M h1 h2 h3 => kk M h1 (fun x hx => h2 x (List.mem_append_right _ hx)) h3
end GT
