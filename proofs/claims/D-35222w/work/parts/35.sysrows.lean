/-! THE SYSTEM's judgement: the picture is known by A, U and the local cells L -/
/-- tags that lie outside the system's live cells -/
def tOut (EV : gEV) (A : gAd) (U : gV) : gTag → Prop := fun t => tLoc t ∨ (11 ≤ t.1 ∧ t.1 ≤ 16 ∧ sC EV A U t = none)
theorem TD.out {EV : gEV} {M M' : gM} {A : gAd} {U : gV} {T : gTag → Prop} (h : TD EV M A U) (hF : gFr T M M') (hT : ∀ t, T t → tOut EV A U t) : TD EV M' A U := by
  refine ⟨fun t e he => hF _ _ _ (h.1 t e he) (fun z => ?_), fun i hi => (h.2.1 i hi).fr hF (fun z => ?_) (fun p z => ?_), fun i hi => (h.2.2 i hi).fr hF (fun z => ?_) (fun p hp z => ?_)⟩
  · have h2 := sC_lt he
    rcases hT _ z with h1 | ⟨-, -, h1⟩
    · unfold tLoc at h1
      omega
    · have h3 : sC EV A U t = none := h1
      rw [h3] at he
      cases he
  all_goals
    rcases hT _ z with h1 | ⟨h1, h3, -⟩
    · unfold tLoc at h1
      simp at h1
      try omega
    · simp at h1 h3
      try omega
section GT
variable {z : gZ} {S : gS} {EV : gEV} {Q : State → Prop} {M0 : gM} {T : gTag → Prop} {A A' : gAd} {U U' : gV} {L L' : gLL} {k n pc idx : Nat} {ls : List (Option Value)} {st rest As : List Value} {mc ms d : Nat} {post : Option Value → gM → Prop} {px : String → gM → Prop}
def gTd (z : gZ) (S : gS) (EV : gEV) (Q : State → Prop) (T : gTag → Prop) (M0 : gM) (A : gAd) (U : gV) (L : gLL) (k n pc : Nat) (ls : List (Option Value)) (st : List Value) : Prop :=
  ∀ M : gM, TD EV M A U → gL M L → gFr T M0 M → gG z S EV Q M k n pc ls st
theorem t_run (X : CX z S EV) (j : Nat) {pc1 : Nat} {ls1 : List (Option Value)} {st1 : List Value} (h : gRun S.2.2.1 S.2.2.2.2.1 j pc ls st = some (pc1, ls1, st1)) (kk : gTd z S EV Q T M0 A U L k n pc1 ls1 st1) : gTd z S EV Q T M0 A U L k n pc ls st :=
  fun M h1 h2 h3 => g_run X j h (kk M h1 h2 h3)
theorem t_eq {ls' : List (Option Value)} {st' : List Value} (h1 : ls = ls') (h2 : st = st') (kk : gTd z S EV Q T M0 A U L k n pc ls' st') : gTd z S EV Q T M0 A U L k n pc ls st := by
  subst h1; subst h2; exact kk
theorem t_L (h1 : L = L') (kk : gTd z S EV Q T M0 A U L' k n pc ls st) : gTd z S EV Q T M0 A U L k n pc ls st := by
  subst h1; exact kk
theorem t_sub (ps : List Nat) (hs : ps.filterMap (fun i => L[i]?) = L') (kk : gTd z S EV Q T M0 A U L' k n pc ls st) : gTd z S EV Q T M0 A U L k n pc ls st :=
  fun M h1 h2 h3 => kk M h1 (h2.sub ps hs) h3
theorem t_wide {k' n' : Nat} (h1 : k ≤ k') (h2 : n ≤ n') (kk : gTd z S EV Q T M0 A U L k' n' pc ls st) : gTd z S EV Q T M0 A U L k n pc ls st :=
  fun M a b c => g_wide h1 h2 (kk M a b c)
theorem t_forget {ls' : List (Option Value)} (m : List Bool) (h : gMask m ls = ls') (kk : gTd z S EV Q T M0 A U L k n pc ls' st) : gTd z S EV Q T M0 A U L k n pc ls st :=
  fun M h1 h2 h3 => g_forget m h (kk M h1 h2 h3)
theorem t_br (X : CX z S EV) {cs : Prop × Prop} {pc1 : Nat} {st1 : List Value} (h : gBrS S.2.2.2.2.1 pc st = some (cs, pc1, st1)) (kt : cs.1 → gTd z S EV Q T M0 A U L k n pc1 ls st1) (kf : cs.2 → gTd z S EV Q T M0 A U L k n (pc + 3) ls st1) : gTd z S EV Q T M0 A U L k n pc ls st :=
  fun M h1 h2 h3 => g_br X h (fun c => kt c M h1 h2 h3) (fun c => kf c M h1 h2 h3)
theorem t_get (X : CX z S EV) (t : gTag) {ci j kind : Nat} {ty : FieldType} {fs : List Value} {v : Value} (hT : S.2.2.2.2.1 pc = some (.getfield idx, 3)) (F : gFld S.2.1 idx ci j ty kind) (hs : sC EV A U t = some (.inr (ci, fs))) (hv : fs[j]? = some v)
    (kk : gTd z S EV Q T M0 A U L k n (pc + 3) ls (v :: st)) : gTd z S EV Q T M0 A U L k n pc ls (.ref (A t.1 t.2) :: st) :=
  fun M h1 h2 h3 => g_get X hT F (h1.1 t _ hs) hv (kk M h1 h2 h3)
/-- lists unaffected -/
def sL (A : gAd) (U U' : gV) : Prop := (∀ i, alL U' i → alL U i) ∧ (∀ i, alN U' i = alN U i) ∧ (∀ i j, alF A U' i j = alF A U i j) ∧ (∀ i, llL U' i → llL U i) ∧ (∀ i, llN U' i = llN U i) ∧ ∀ i j, llF A U' i j = llF A U i j
theorem t_put (X : CX z S EV) (t : gTag) {ci j : Nat} {ty : FieldType} {fs fs' : List Value} {v : Value} (hT : S.2.2.2.2.1 pc = some (.putfield idx, 3)) (F : gFld S.2.1 idx ci j ty 0) (hs : sC EV A U t = some (.inr (ci, fs))) (hn : narrow ty v = v) (hf : fits ty v = true) (hj : j < fs.length)
    (hs' : sC EV A U' t = some (.inr (ci, fs'))) (hfs : fs.set j v = fs') (ho : ∀ t', t' ≠ t → sC EV A U' t' = sC EV A U t') (hl : sL A U U') (hTt : T t) (hLt : ∀ x ∈ L, ¬ x.2.1 = t) (kk : gTd z S EV Q T M0 A U' L k n (pc + 3) ls st) : gTd z S EV Q T M0 A U L k n pc ls (v :: .ref (A t.1 t.2) :: st) := by
  intro M h1 h2 h3
  have hM := h1.1 t _ hs
  exact g_put X hT F hM hn hf hj hfs (kk _ (h1.upd hs hs' ho hl) (h2.fr (gFr.up hM rfl : gFr (tO t) M _) hLt) (h3.upT hM hTt))
theorem t_iald (X : CX z S EV) (t : gTag) {N j : Nat} {f : Nat → Int32} {x v : Int32} (hT : S.2.2.2.2.1 pc = some (.iaload, 1)) (hs : sC EV A U t = some (.inl (EV.2.1 0, N, .inl f))) (hx : gIx x N j) (hv : f j = v) (kk : gTd z S EV Q T M0 A U L k n (pc + 1) ls (.int v :: st)) : gTd z S EV Q T M0 A U L k n pc ls (.int x :: .ref (A t.1 t.2) :: st) :=
  fun M h1 h2 h3 => g_iald X hT (h1.1 t _ hs) hx hv (kk M h1 h2 h3)
theorem t_zald (X : CX z S EV) (t : gTag) {N j : Nat} {f : Nat → Int32} {x v : Int32} (hT : S.2.2.2.2.1 pc = some (.baload, 1)) (hs : sC EV A U t = some (.inl (EV.2.1 1, N, .inl f))) (hx : gIx x N j) (hv : f j = v) (kk : gTd z S EV Q T M0 A U L k n (pc + 1) ls (.int v :: st)) : gTd z S EV Q T M0 A U L k n pc ls (.int x :: .ref (A t.1 t.2) :: st) :=
  fun M h1 h2 h3 => g_zald X hT (h1.1 t _ hs) hx hv (kk M h1 h2 h3)
theorem t_aald (X : CX z S EV) (i : Nat) {C : String} (t : gTag) {N j : Nat} {f : Nat → Option Nat} {x : Int32} {v : Value} (hT : S.2.2.2.2.1 pc = some (.aaload, 1)) (hi : (gTys EV.2.1)[i]? = some (EV.2.1 i, .object C)) (hs : sC EV A U t = some (.inl (EV.2.1 i, N, refs f))) (hx : gIx x N j) (hv : va_rf (f j) = v) (kk : gTd z S EV Q T M0 A U L k n (pc + 1) ls (v :: st)) : gTd z S EV Q T M0 A U L k n pc ls (.int x :: .ref (A t.1 t.2) :: st) :=
  fun M h1 h2 h3 => g_aald X i hT hi (h1.1 t _ hs) hx hv (kk M h1 h2 h3)
theorem t_aaldA (X : CX z S EV) (i : Nat) {ty : FieldType} (t : gTag) {N j : Nat} {f : Nat → Option Nat} {x : Int32} {v : Value} (hT : S.2.2.2.2.1 pc = some (.aaload, 1)) (hi : (gTys EV.2.1)[i]? = some (EV.2.1 i, .array ty)) (hs : sC EV A U t = some (.inl (EV.2.1 i, N, refs f))) (hx : gIx x N j) (hv : va_rf (f j) = v) (kk : gTd z S EV Q T M0 A U L k n (pc + 1) ls (v :: st)) : gTd z S EV Q T M0 A U L k n pc ls (.int x :: .ref (A t.1 t.2) :: st) :=
  fun M h1 h2 h3 => g_aaldA X i hT hi (h1.1 t _ hs) hx hv (kk M h1 h2 h3)
theorem t_alen (X : CX z S EV) (i : Nat) {ty : FieldType} (t : gTag) {x : vp_A} {v : Int32} (hT : S.2.2.2.2.1 pc = some (.arraylength, 1)) (hi : (gTys EV.2.1)[i]? = some (EV.2.1 i, ty)) (hs : sC EV A U t = some (.inl (EV.2.1 i, x))) (hv : Int32.ofNat x.1 = v) (kk : gTd z S EV Q T M0 A U L k n (pc + 1) ls (.int v :: st)) : gTd z S EV Q T M0 A U L k n pc ls (.ref (A t.1 t.2) :: st) :=
  fun M h1 h2 h3 => g_alen X i hT hi (h1.1 t _ hs) hv (kk M h1 h2 h3)
theorem t_iast (X : CX z S EV) (t : gTag) {N j : Nat} {f f' : Nat → Int32} {x v : Int32} (hT : S.2.2.2.2.1 pc = some (.iastore, 1)) (hs : sC EV A U t = some (.inl (EV.2.1 0, N, .inl f))) (hx : gIx x N j) (hs' : sC EV A U' t = some (.inl (EV.2.1 0, N, .inl f'))) (hf : upd f j v = f') (ho : ∀ t', t' ≠ t → sC EV A U' t' = sC EV A U t') (hl : sL A U U') (hTt : T t) (hLt : ∀ x ∈ L, ¬ x.2.1 = t)
    (kk : gTd z S EV Q T M0 A U' L k n (pc + 1) ls st) : gTd z S EV Q T M0 A U L k n pc ls (.int v :: .int x :: .ref (A t.1 t.2) :: st) := by
  intro M h1 h2 h3
  have hM := h1.1 t _ hs
  exact g_iast X hT hM hx hf (kk _ (h1.upd hs hs' ho hl) (h2.fr (gFr.up hM rfl : gFr (tO t) M _) hLt) (h3.upT hM hTt))
theorem t_zast (X : CX z S EV) (t : gTag) {N j : Nat} {f f' : Nat → Int32} {x v : Int32} (hT : S.2.2.2.2.1 pc = some (.bastore, 1)) (hs : sC EV A U t = some (.inl (EV.2.1 1, N, .inl f))) (hx : gIx x N j) (hvn : vp_nar .boolean v = v) (hs' : sC EV A U' t = some (.inl (EV.2.1 1, N, .inl f'))) (hf : upd f j v = f') (ho : ∀ t', t' ≠ t → sC EV A U' t' = sC EV A U t') (hl : sL A U U') (hTt : T t) (hLt : ∀ x ∈ L, ¬ x.2.1 = t)
    (kk : gTd z S EV Q T M0 A U' L k n (pc + 1) ls st) : gTd z S EV Q T M0 A U L k n pc ls (.int v :: .int x :: .ref (A t.1 t.2) :: st) := by
  intro M h1 h2 h3
  have hM := h1.1 t _ hs
  exact g_zast X hT hM hx hvn hf (kk _ (h1.upd hs hs' ho hl) (h2.fr (gFr.up hM rfl : gFr (tO t) M _) hLt) (h3.upT hM hTt))
end GT
