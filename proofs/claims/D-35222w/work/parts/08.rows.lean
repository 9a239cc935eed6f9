/-! ROWS of the judgement gG: heap, branches, calls, ends. gS grows by its room: depth d, cells mc, slots ms -/
section GR
variable {z : gZ} {S : gS} {EV : gEV} {Q : State → Prop} {M : gM} {k n pc : Nat} {ls : List (Option Value)} {st : List Value}
theorem CX.exec (X : CX z S EV) : z.1.tables.exec = Jvm.exec := X.1
theorem CX.code (X : CX z S EV) : z.2.2.2.2.2.2.2.2.2.code = S.1 := X.2.1
theorem CX.ret (X : CX z S EV) : z.2.2.2.2.2.2.2.2.1.sig.returnType = S.2.2.2.1 := X.2.2.1
theorem CX.locks (X : CX z S EV) : z.2.2.2.2.2.2.2.2.1.locks = false := X.2.2.2.1
theorem CX.maxL (X : CX z S EV) : z.2.2.2.2.2.2.2.2.2.maxLocals = S.2.2.1 := X.2.2.2.2.1
theorem CX.own (X : CX z S EV) : z.2.2.2.2.1.vm.findClass S.2.1 = some z.2.2.2.2.2.1.cls := X.2.2.2.2.2.1
theorem CX.hts (X : CX z S EV) : ∀ w ∈ lw_all, w.before z.2.2.2.2.2.2.1 z.2.2.2.2.1 = true := X.2.2.2.2.2.2.1
theorem CX.env (X : CX z S EV) : gE EV z.2.2.2.2.1 := X.2.2.2.2.2.2.2.1
theorem CX.base (X : CX z S EV) : EV.2.2.1 ≤ z.2.2.2.2.1.heap.size := X.2.2.2.2.2.2.2.2.1
theorem CX.tab (X : CX z S EV) : tkAll S.1 S.2.2.2.2.1 := X.2.2.2.2.2.2.2.2.2.1
theorem CX.name (X : CX z S EV) : z.2.2.2.2.2.2.2.2.1.name = S.2.2.2.2.2 := X.2.2.2.2.2.2.2.2.2.2.1
theorem CX.tr (X : CX z S EV) : z.2.1.stackTraces = false := X.2.2.2.2.2.2.2.2.2.2.2
theorem CX.dec (X : CX z S EV) {i : Instr × Nat} (h : S.2.2.2.2.1 pc = some i) : decode S.1 pc = .ok i := X.tab pc i h
theorem gP.one {H : Heap} (h : gP EV M H) {a : Nat} {t : gTag} {e : va_E} (hM : M a = some (t, e)) : va_P EV.1 vwCl [(a, e)] H := by
  intro j q hj
  cases j with
  | zero => cases hj; exact (h a t e hM).1
  | succ j => simp at hj
theorem gS.put {H0 H H1 : Heap} {locs : List Loc} {a j : Nat} (h : va_S (gA EV) H0 H locs) (z : H1.size = H.size) (oq : ∀ q : Nat, q ≠ a → H1[q]? = H[q]?) (ha : EV.2.2.1 ≤ a) : va_S (gA EV) H0 H1 (locs ++ [⟨a, j⟩]) := h.put z oq ha
/-- what a link to a field says: class ci of vwCl, its field j, of type ty; kind 0 may be written, 1 is final and this class's own -/
def gFld (own : String) (idx ci j : Nat) (ty : FieldType) (kind : Nat) : Prop := ∃ (C : String) (T : u_T) (N : Nat) (ref : String) (ty0 : Nat → FieldType), vwCl[ci]? = some (C, T, N) ∧ j < N ∧ (∀ w ∈ u_ws C T N, w ∈ lw_all) ∧
  (∀ i, i < N → parseFieldDescriptor (T i).2.2.1 = some (ty0 i)) ∧ (∀ a, a < N → ∀ b, b < N → a ≠ b → (T a).2.1 ≠ (T b).2.1) ∧ ty0 j = ty ∧ (T j).2.2.2 = Nat.ble 1 kind ∧ (kind = 1 → (T j).1 = own) ∧
  (Cond.fieldLink own idx ref (T j).2.1 (T j).2.2.1 ∈ lw_all ∨ ∃ host, Cond.fieldLinkNest own idx ref (T j).2.1 (T j).2.2.1 host ∈ lw_tbl) ∧ ((T j).1 = ref ∨ Cond.sameField ref (T j).1 (T j).2.1 (T j).2.2.1 ∈ lw_all)
def gNew (own : String) (idx ci N : Nat) (fs : List Value) : Prop := ∃ (C : String) (T : u_T) (ty0 : Nat → FieldType), vwCl[ci]? = some (C, T, N) ∧ (∀ w ∈ u_ws C T N, w ∈ lw_all) ∧ (∀ i, i < N → parseFieldDescriptor (T i).2.2.1 = some (ty0 i)) ∧
  Cond.classLink own idx C ∈ lw_all ∧ Cond.instantiable C N ∈ lw_all ∧ Cond.initialized C ∈ lw_all ∧ ∀ j, j < N → defaultValue (ty0 j) = vp_V fs j
theorem gSame (X : CX z S EV) {ref o nm d : String} (h : o = ref ∨ Cond.sameField ref o nm d ∈ lw_all) : ∀ x, z.2.2.2.2.1.fieldFound? o nm d = some x → z.2.2.2.2.1.fieldFound? ref nm d = some x := by
  rcases h with h | h
  · subst h; exact fun _ h => h
  · exact u_same (X.hts _ h)
theorem g_get (X : CX z S EV) {idx ci j kind : Nat} {ty : FieldType} {a : Nat} {t : gTag} {fs : List Value} {v : Value} (hT : S.2.2.2.2.1 pc = some (.getfield idx, 3)) (F : gFld S.2.1 idx ci j ty kind) (hM : M a = some (t, .inr (ci, fs))) (hv : fs[j]? = some v)
    (kk : gG z S EV Q M k n (pc + 3) ls (v :: st)) : gG z S EV Q M k n pc ls (.ref a :: st) := by
  intro H locs la hl hP hS
  obtain ⟨C, T, N, ref, ty0, h1, h2, h3, h4, h5, h6, h7, h8, h9, h10⟩ := F
  rcases h9 with h9 | ⟨host, h9⟩
  · exact va_get X.exec X.code X.hts h3 X.own X.env.1 (hP.one hM) 0 rfl h1 j h2 (X.hts _ h9) (gSame X h10) hv (X.dec hT) (kk H locs la hl hP hS)
  · exact va_getN X.exec X.code X.hts h3 X.own X.env.1 (hP.one hM) 0 rfl h1 j h2 (va_Nw.use rfl (X.env.2.1 _ h9 rfl)) (gSame X h10) hv (X.dec hT) (kk H locs la hl hP hS)
theorem g_put (X : CX z S EV) {idx ci j : Nat} {ty : FieldType} {a : Nat} {t : gTag} {fs fs' : List Value} {v : Value} (hT : S.2.2.2.2.1 pc = some (.putfield idx, 3)) (F : gFld S.2.1 idx ci j ty 0) (hM : M a = some (t, .inr (ci, fs))) (hn : narrow ty v = v) (hf : fits ty v = true) (hj : j < fs.length) (hfs : fs.set j v = fs')
    (kk : gG z S EV Q (mU M a t (.inr (ci, fs'))) k n (pc + 3) ls st) : gG z S EV Q M k n pc ls (v :: .ref a :: st) := by
  intro H locs la hl hP hS
  subst hfs
  obtain ⟨C, T, N, ref, ty0, h1, h2, h3, h4, h5, h6, h7, h8, h9, h10⟩ := F
  have hap := va_apart (own := S.2.1) X.hts h3 ty0 h4 h5 X.env.1 h1
  obtain ⟨r, g1, cell, q1, q2, q3, q4⟩ := (hP a t _ hM).1
  have hr : r = (C, T, N) := Option.some.inj (g1.symm.trans h1)
  subst hr
  obtain ⟨hSl, hfc, kC, hkC, hkind⟩ := X.env.1.1 ci _ h1
  obtain ⟨cf, kf, fi, f, hi, hsl⟩ := hSl j h2
  have hlay := X.hts _ (h3 _ (u_in_lay h2))
  unfold u_lay at hlay
  rw [if_neg (by rw [h7]; decide)] at hlay
  have hst := (u_facts hfc hkC (u_lays X.hts h3 h2) hi).1
  have h6' : k2_Sd z.2.2.2.2.1 f (EV.1.1 ci) v := u_store hfc hkC hkind hlay hi (h4 j h2) (by rw [h6]; exact hn) (by rw [h6]; exact hf)
  have fin : ∀ H' : Heap, H'[a]? = some (cell.setSlot f.slot v) → H'.size = H.size → (∀ q, q ≠ a → H'[q]? = H[q]?) → gW z H' (locs ++ [⟨a, f.slot⟩]) k n Q (pc + 3) la st := by
    intro H' e1 e2 e3
    rw [hsl] at e1
    exact kk H' _ la hl (hP.up ⟨_, h1, t_OB.to (V := updV (vp_V fs) j v) ⟨_, e1, q2, q3, t_set q4 hap h2 v⟩ (fun i _ => vp_updV_set hj v i)⟩ (hP a t _ hM).2 (fun q hq _ => e3 q hq)) (hS.put e2 e3 (hP a t _ hM).2)
  rcases h9 with h9 | ⟨host, h9⟩
  · exact W.putK X.exec X.code (f := f) ⟨X.own, X.hts _ h9, ⟨_, _, _, gSame X h10 _ hi⟩, hst⟩ (by rw [q2]; exact h6') q1 q3 (by rw [hsl]; exact k2_hasslot (q4 j h2)) rfl rfl (X.dec hT) fin
  · exact va_WputK X.exec X.code X.own (va_Nw.use rfl (X.env.2.1 _ h9 rfl)) (gSame X h10 _ hi) hst (by rw [q2]; exact h6') q1 q3 (by rw [hsl]; exact k2_hasslot (q4 j h2)) rfl rfl (X.dec hT) fin
theorem g_putF (X : CX z S EV) {idx ci j : Nat} {ty : FieldType} {a : Nat} {t : gTag} {fs fs' : List Value} {v : Value} (hT : S.2.2.2.2.1 pc = some (.putfield idx, 3)) (hin : S.2.2.2.2.2 = "<init>") (F : gFld S.2.1 idx ci j ty 1) (hM : M a = some (t, .inr (ci, fs))) (hn : narrow ty v = v) (hf : fits ty v = true) (hj : j < fs.length) (hfs : fs.set j v = fs')
    (kk : gG z S EV Q (mU M a t (.inr (ci, fs'))) k n (pc + 3) ls st) : gG z S EV Q M k n pc ls (v :: .ref a :: st) := by
  intro H locs la hl hP hS
  subst hfs
  obtain ⟨C, T, N, ref, ty0, h1, h2, h3, h4, h5, h6, h7, h8, h9, h10⟩ := F
  have hap := va_apart (own := S.2.1) X.hts h3 ty0 h4 h5 X.env.1 h1
  obtain ⟨r, g1, cell, q1, q2, q3, q4⟩ := (hP a t _ hM).1
  have hr : r = (C, T, N) := Option.some.inj (g1.symm.trans h1)
  subst hr
  obtain ⟨hSl, hfc, kC, hkC, hkind⟩ := X.env.1.1 ci _ h1
  obtain ⟨cf, kf, fi, f, hi, hsl⟩ := hSl j h2
  have hlay := X.hts _ (h3 _ (u_in_lay h2))
  unfold u_lay at hlay
  rw [if_pos (h7.trans (by decide))] at hlay
  have hst := (u_facts hfc hkC (u_lays X.hts h3 h2) hi).1
  have hcf : z.2.2.2.2.2.1.cls = cf := by
    obtain ⟨_, _, c', _, _, _, -, -, hf', -, -, -, hown2, -⟩ := Cond.laysFinal_spec hlay
    have e1 : c' = cf := by have := hi.symm.trans hf'; simp at this; exact this.1.symm
    rw [h8 rfl] at hown2
    rw [← e1]; exact Option.some.inj (X.own.symm.trans hown2)
  have h6' := u_fits hfc hkC hkind (Or.inr hlay) hi (h4 j h2) (v := v) (by rw [h6]; exact hn) (by rw [h6]; exact hf)
  rcases h9 with h9 | ⟨host, h9⟩
  · refine W.putFinK X.exec X.code X.own (X.hts _ h9) (gSame X h10 _ hi) hst hcf (X.name.trans hin) (by rw [q2]; exact h6') q1 q3 (by rw [hsl]; exact k2_hasslot (q4 j h2)) rfl rfl (X.dec hT) fun H' e1 e2 e3 => ?_
    rw [hsl] at e1 ⊢
    exact kk H' _ la hl (hP.up ⟨_, h1, t_OB.to (V := updV (vp_V fs) j v) ⟨_, e1, q2, q3, t_set q4 hap h2 v⟩ (fun i _ => vp_updV_set hj v i)⟩ (hP a t _ hM).2 (fun q hq _ => e3 q hq)) (hS.put e2 e3 (hP a t _ hM).2)
  · refine va_Wputf X.exec X.code X.own (va_Nw.use rfl (X.env.2.1 _ h9 rfl)) (gSame X h10 _ hi) hst (Or.inr ⟨hcf, X.name.trans hin⟩) q1 (by rw [q3]; exact fun h => by cases h) (by rw [hsl]; exact k2_hasslot (q4 j h2)) h6'.1 (by rw [q2, q3]; exact h6'.2) rfl rfl (X.dec hT) ?_
    have ha : a < H.size := (Array.getElem?_eq_some_iff.mp q1).1
    rw [hsl]
    exact kk _ _ la hl (hP.up ⟨_, h1, t_OB.to (V := updV (vp_V fs) j v) ⟨cell.setSlot (EV.1.2 ci j) v, by simp [Array.getElem?_setIfInBounds, ha], q2, q3, t_set q4 hap h2 v⟩ (fun i _ => vp_updV_set hj v i)⟩ (hP a t _ hM).2 (fun q hq _ => by simp [Array.getElem?_setIfInBounds, Ne.symm hq])) (hS.put (by simp) (fun q hq => by simp [Array.getElem?_setIfInBounds, Ne.symm hq]) (hP a t _ hM).2)
theorem gS.new {H0 H H1 : Heap} {locs : List Loc} (h : va_S (gA EV) H0 H locs) (z1 : H1.size = H.size + 1) (o1 : ∀ q : Nat, q < H.size → H1[q]? = H[q]?) : va_S (gA EV) H0 H1 locs :=
  ⟨Nat.le_trans h.1 (by omega), fun x h1 h2 => (o1 x (Nat.lt_of_lt_of_le h1 h.1)).trans (h.2.1 x h1 h2), h.2.2⟩
theorem gP.new {H H1 : Heap} {t : gTag} {e : va_E} (h : gP EV M H) (hb : EV.2.2.1 ≤ H.size) (he : va_at EV.1 vwCl (H.size, e) H1) (o1 : ∀ q : Nat, q < H.size → H1[q]? = H[q]?) : gP EV (mU M H.size t e) H1 := h.up he hb (fun q _ hq => o1 q hq)
theorem g_new (X : CX z S EV) (t : gTag) {idx ci N : Nat} {fs : List Value} (hT : S.2.2.2.2.1 pc = some (.new idx, 3)) (F : gNew S.2.1 idx ci N fs) (hc : k + 1 ≤ z.2.2.2.1.cells) (hs : n + N ≤ z.2.2.2.1.slots)
    (kk : ∀ q : Nat, M q = none → gG z S EV Q (mU M q t (.inr (ci, fs))) (k + 1) (n + N) (pc + 3) ls (.ref q :: st)) : gG z S EV Q M k n pc ls st := by
  intro H locs la hl hP hS
  obtain ⟨C, T, ty0, h1, h2, h3, h4, h5, h6, h7⟩ := F
  have hKn := X.env.1.1 ci _ h1
  refine W.newcK X.exec X.code X.own (X.hts _ h4) (X.hts _ h5) (X.hts _ h6) rfl (X.dec hT) hc hs hKn.2.1 rfl fun H1 kC hkC e1 z1 o1 => ?_
  exact kk H.size hP.fresh H1 locs la hl (hP.new (Nat.le_trans X.base hS.1) ⟨_, h1, (u_born ty0 X.hts h2 hKn hkC e1 h3).to h7⟩ o1) (gS.new hS z1 o1)
/-- arrays of numbers: i the place of its class in gTys -/
theorem g_newp (X : CX z S EV) (t : gTag) (i : Nat) {atype : ArrayType} {ty : FieldType} {x : Int32} {N : Nat} {a0 : vp_A} (hT : S.2.2.2.2.1 pc = some (.newarray atype, 2)) (hty : newarray.typeOf atype = ty) (hi : (gTys EV.2.1)[i]? = some (EV.2.1 i, ty)) (hra : ∀ (U : State) (cA : ClassId), va_RA U cA ty → U.vm.findClass ("[" ++ ty.toString) = some cA)
    (harr : Cond.arrayClass ty ∈ lw_all) (ha : ∀ cA : ClassId, vp_cell cA a0 = arrV cA N (fun _ => defaultValue ty)) (hx : ¬ x < 0) (hN : x.toNatClampNeg = N) (hby : N * componentBytes ty ≤ 536870912) (hc : k + 1 ≤ z.2.2.2.1.cells) (hs : n + N ≤ z.2.2.2.1.slots)
    (kk : ∀ q : Nat, M q = none → gG z S EV Q (mU M q t (.inl (EV.2.1 i, a0))) (k + 1) (n + N) (pc + 2) ls (.ref q :: st)) : gG z S EV Q M k n pc ls (.int x :: st) := by
  intro H locs la hl hP hS
  subst hty
  refine va_newaK X.exec X.code (X.hts _ harr) rfl (X.dec hT) rfl hx hN hby hc hs rfl fun H1 cA e1 z1 o1 hAr hNm => ?_
  have hcA : cA = EV.2.1 i := Option.some.inj (hNm.symm.trans (hra _ _ (X.env.1.2 i _ hi).2))
  subst hcA
  refine kk H.size hP.fresh H1 locs la hl (hP.new (Nat.le_trans X.base hS.1) ?_ o1) (gS.new hS z1 o1)
  show H1[H.size]? = some (vp_cell _ _)
  rw [ha]
  exact e1
theorem g_newI (X : CX z S EV) (t : gTag) {x : Int32} (N : Nat) (hT : S.2.2.2.2.1 pc = some (.newarray .int, 2)) (hx : ¬ x < 0) (hN : x.toNatClampNeg = N) (hby : N ≤ 100000) (hc : k + 1 ≤ z.2.2.2.1.cells) (hs : n + N ≤ z.2.2.2.1.slots)
    (kk : ∀ q : Nat, M q = none → gG z S EV Q (mU M q t (.inl (EV.2.1 0, N, .inl (fun _ => 0)))) (k + 1) (n + N) (pc + 2) ls (.ref q :: st)) : gG z S EV Q M k n pc ls (.int x :: st) :=
  g_newp X t 0 (ty := .int) hT rfl rfl (fun _ _ h => h) q221 (fun _ => rfl) hx hN (by show N * 4 ≤ _; omega) hc hs kk
theorem g_newZ (X : CX z S EV) (t : gTag) {x : Int32} (N : Nat) (hT : S.2.2.2.2.1 pc = some (.newarray .boolean, 2)) (hx : ¬ x < 0) (hN : x.toNatClampNeg = N) (hby : N ≤ 100000) (hc : k + 1 ≤ z.2.2.2.1.cells) (hs : n + N ≤ z.2.2.2.1.slots)
    (kk : ∀ q : Nat, M q = none → gG z S EV Q (mU M q t (.inl (EV.2.1 1, N, .inl (fun _ => 0)))) (k + 1) (n + N) (pc + 2) ls (.ref q :: st)) : gG z S EV Q M k n pc ls (.int x :: st) :=
  g_newp X t 1 (ty := .boolean) hT rfl rfl (fun _ _ h => h) q199 (fun _ => rfl) hx hN (by show N * 1 ≤ _; omega) hc hs kk
theorem g_newJ (X : CX z S EV) (t : gTag) {x : Int32} (N : Nat) (hT : S.2.2.2.2.1 pc = some (.newarray .long, 2)) (hx : ¬ x < 0) (hN : x.toNatClampNeg = N) (hby : N ≤ 100000) (hc : k + 1 ≤ z.2.2.2.1.cells) (hs : n + N ≤ z.2.2.2.1.slots)
    (kk : ∀ q : Nat, M q = none → gG z S EV Q (mU M q t (.inl (EV.2.1 7, N, .inr (.inl (fun _ => 0))))) (k + 1) (n + N) (pc + 2) ls (.ref q :: st)) : gG z S EV Q M k n pc ls (.int x :: st) :=
  g_newp X t 7 (ty := .long) hT rfl rfl (fun _ _ h => h) q2663 (fun _ => rfl) hx hN (by show N * 8 ≤ _; omega) hc hs kk
/-- arrays of references -/
theorem g_newq (X : CX z S EV) (t : gTag) (i : Nat) {idx : Nat} {C : String} {x : Int32} {N : Nat} (hT : S.2.2.2.2.1 pc = some (.anewarray idx, 3)) (hk : Cond.classLink S.2.1 idx C ∈ lw_all) (ho : C ∈ gOver) (hi : (gTys EV.2.1)[i]? = some (EV.2.1 i, .object C))
    (hx : ¬ x < 0) (hN : x.toNatClampNeg = N) (hby : N ≤ 100000) (hc : k + 1 ≤ z.2.2.2.1.cells) (hs : n + N ≤ z.2.2.2.1.slots)
    (kk : ∀ q : Nat, M q = none → gG z S EV Q (mU M q t (.inl (EV.2.1 i, N, .inr (.inr (.inr (.inr (fun _ => none))))))) (k + 1) (n + N) (pc + 3) ls (.ref q :: st)) : gG z S EV Q M k n pc ls (.int x :: st) := by
  intro H locs la hl hP hS
  subst hN
  refine W.anew X.exec X.code X.own (X.hts _ hk) (va_AO.use (X.env.2.2.1 C ho)) rfl (X.dec hT) rfl hx (by omega) hc hs fun cA kA comp f1 f2 f3 f4 => ?_
  obtain ⟨kA', comp', g1, g2, g3, g4⟩ := (X.env.1.2 i _ hi).2
  have hcA : cA = EV.2.1 i := Option.some.inj (f1.symm.trans g4)
  subst hcA
  generalize hH1 : H.push ({ cls := EV.2.1 i, slots := Array.replicate x.toNatClampNeg .null, vm := .none } : Cell) = H1
  have z1 : H1.size = H.size + 1 := by rw [← hH1, Array.size_push]
  have e1 : H1[H.size]? = some (arrV (EV.2.1 i) x.toNatClampNeg (fun _ => .null)) := by rw [← hH1, Array.getElem?_push_size, ← arrV_new]
  have o1 : ∀ q : Nat, q < H.size → H1[q]? = H[q]? := fun q hq => by rw [← hH1, Array.getElem?_push, if_neg (Nat.ne_of_lt hq)]
  refine kk H.size hP.fresh H1 locs la hl (hP.new (Nat.le_trans X.base hS.1) ?_ o1) (gS.new hS z1 o1)
  show H1[H.size]? = some (vp_cell _ _)
  rw [vp_cell_q]
  exact e1
/-- an index: within N, at j -/
def gIx (x : Int32) (N j : Nat) : Prop := vp_in x N ∧ x.toNatClampNeg = j
theorem gIx_lt {x : Int32} {N j : Nat} (h : gIx x N j) : j < N := by
  rw [← h.2]
  exact Nat.not_le.mp fun q => h.1 (Or.inr q)
theorem g_iald (X : CX z S EV) {a : Nat} {t : gTag} {N j : Nat} {f : Nat → Int32} {x v : Int32} (hT : S.2.2.2.2.1 pc = some (.iaload, 1)) (hM : M a = some (t, .inl (EV.2.1 0, N, .inl f))) (hx : gIx x N j) (hv : f j = v)
    (kk : gG z S EV Q M k n (pc + 1) ls (.int v :: st)) : gG z S EV Q M k n pc ls (.int x :: .ref a :: st) := by
  intro H locs la hl hP hS
  obtain ⟨h1, rfl⟩ := hx
  subst hv
  exact va_iald X.exec X.code X.env.1 (hP.one hM) 0 0 rfl rfl h1 (X.dec hT) (kk H locs la hl hP hS)
theorem g_zald (X : CX z S EV) {a : Nat} {t : gTag} {N j : Nat} {f : Nat → Int32} {x v : Int32} (hT : S.2.2.2.2.1 pc = some (.baload, 1)) (hM : M a = some (t, .inl (EV.2.1 1, N, .inl f))) (hx : gIx x N j) (hv : f j = v)
    (kk : gG z S EV Q M k n (pc + 1) ls (.int v :: st)) : gG z S EV Q M k n pc ls (.int x :: .ref a :: st) := by
  intro H locs la hl hP hS
  obtain ⟨h1, rfl⟩ := hx
  subst hv
  exact va_zald X.exec X.code X.env.1 (hP.one hM) 0 1 rfl rfl h1 (X.dec hT) (kk H locs la hl hP hS)
theorem g_lald (X : CX z S EV) {a : Nat} {t : gTag} {N j : Nat} {f : Nat → Int64} {x : Int32} {v : Int64} (hT : S.2.2.2.2.1 pc = some (.laload, 1)) (hM : M a = some (t, .inl (EV.2.1 7, N, .inr (.inl f)))) (hx : gIx x N j) (hv : f j = v)
    (kk : gG z S EV Q M k n (pc + 1) ls (.long v :: st)) : gG z S EV Q M k n pc ls (.int x :: .ref a :: st) := by
  intro H locs la hl hP hS
  obtain ⟨h1, rfl⟩ := hx
  subst hv
  exact va_lald X.exec X.code X.env.1 (hP.one hM) 0 7 rfl rfl h1 (X.dec hT) (kk H locs la hl hP hS)
theorem g_aald (X : CX z S EV) (i : Nat) {C : String} {a : Nat} {t : gTag} {N j : Nat} {f : Nat → Option Nat} {x : Int32} {v : Value} (hT : S.2.2.2.2.1 pc = some (.aaload, 1)) (hi : (gTys EV.2.1)[i]? = some (EV.2.1 i, .object C)) (hM : M a = some (t, .inl (EV.2.1 i, N, .inr (.inr (.inr (.inr f)))))) (hx : gIx x N j) (hv : va_rf (f j) = v)
    (kk : gG z S EV Q M k n (pc + 1) ls (v :: st)) : gG z S EV Q M k n pc ls (.int x :: .ref a :: st) := by
  intro H locs la hl hP hS
  obtain ⟨h1, rfl⟩ := hx
  subst hv
  exact va_aldq X.exec X.code X.env.1 (hP.one hM) 0 i rfl hi h1 (X.dec hT) (kk H locs la hl hP hS)
theorem g_alen (X : CX z S EV) (i : Nat) {ty : FieldType} {a : Nat} {t : gTag} {x : vp_A} {v : Int32} (hT : S.2.2.2.2.1 pc = some (.arraylength, 1)) (hi : (gTys EV.2.1)[i]? = some (EV.2.1 i, ty)) (hM : M a = some (t, .inl (EV.2.1 i, x))) (hv : Int32.ofNat x.1 = v)
    (kk : gG z S EV Q M k n (pc + 1) ls (.int v :: st)) : gG z S EV Q M k n pc ls (.ref a :: st) := by
  intro H locs la hl hP hS
  exact va_alen X.exec X.code X.env.1 (hP.one hM) 0 i rfl hi hv (X.dec hT) (kk H locs la hl hP hS)
theorem g_iast (X : CX z S EV) {a : Nat} {t : gTag} {N j : Nat} {f f' : Nat → Int32} {x v : Int32} (hT : S.2.2.2.2.1 pc = some (.iastore, 1)) (hM : M a = some (t, .inl (EV.2.1 0, N, .inl f))) (hx : gIx x N j) (hf : upd f j v = f')
    (kk : gG z S EV Q (mU M a t (.inl (EV.2.1 0, N, .inl f'))) k n (pc + 1) ls st) : gG z S EV Q M k n pc ls (.int v :: .int x :: .ref a :: st) := by
  intro H locs la hl hP hS
  obtain ⟨h1, rfl⟩ := hx
  subst hf
  refine W.iast X.exec X.code (hP a t _ hM).1 ((X.env.1.2 0 _ rfl).1 N (fun j => .int (f j))) (fun q => by cases q) (by show ¬ (x < 0 ∨ (arrV _ _ _).slots.size ≤ _); rw [arrV_size]; exact h1) rfl rfl (X.dec hT) fun H1 e z1 oq => ?_
  refine kk H1 _ la hl (hP.up ?_ (hP a t _ hM).2 (fun q hq _ => oq q hq)) (hS.put z1 oq (hP a t _ hM).2)
  show H1[a]? = some (vp_cell _ _)
  rw [e]
  rw [vp_cell_i, vp_cell_i, arrV_store]
  congr 2
  funext q
  by_cases hq : q = x.toNatClampNeg
  · subst hq
    simp [updV, upd]
  · simp [updV, upd, hq]
theorem g_zast (X : CX z S EV) {a : Nat} {t : gTag} {N j : Nat} {f f' : Nat → Int32} {x v : Int32} (hT : S.2.2.2.2.1 pc = some (.bastore, 1)) (hM : M a = some (t, .inl (EV.2.1 1, N, .inl f))) (hx : gIx x N j) (hv : vp_nar .boolean v = v) (hf : upd f j v = f')
    (kk : gG z S EV Q (mU M a t (.inl (EV.2.1 1, N, .inl f'))) k n (pc + 1) ls st) : gG z S EV Q M k n pc ls (.int v :: .int x :: .ref a :: st) := by
  intro H locs la hl hP hS
  obtain ⟨h1, rfl⟩ := hx
  subst hf
  refine W.zast X.exec X.code (hP a t _ hM).1 ((X.env.1.2 1 _ rfl).1 N (fun j => .int (f j))) (fun q => by cases q) (by show ¬ (x < 0 ∨ (arrV _ _ _).slots.size ≤ _); rw [arrV_size]; exact h1) rfl rfl (X.dec hT) fun H1 e z1 oq => ?_
  refine kk H1 _ la hl (hP.up ?_ (hP a t _ hM).2 (fun q hq _ => oq q hq)) (hS.put z1 oq (hP a t _ hM).2)
  show H1[a]? = some (vp_cell _ _)
  rw [e]
  rw [vp_cell_i, vp_cell_i, arrV_store]
  congr 2
  funext q
  by_cases hq : q = x.toNatClampNeg
  · subst hq
    have hb9 : narrow .boolean (.int v) = .int v := by
      cases hz : narrow .boolean (.int v) with
      | int y => rw [vp_nar, hz] at hv; exact congrArg Value.int hv
      | _ => simp [narrow] at hz
    simp [updV, upd, hb9]
  · simp [updV, upd, hq]
theorem g_last (X : CX z S EV) {a : Nat} {t : gTag} {N j : Nat} {f f' : Nat → Int64} {x : Int32} {v : Int64} (hT : S.2.2.2.2.1 pc = some (.lastore, 1)) (hM : M a = some (t, .inl (EV.2.1 7, N, .inr (.inl f)))) (hx : gIx x N j) (hf : vp_updL f j v = f')
    (kk : gG z S EV Q (mU M a t (.inl (EV.2.1 7, N, .inr (.inl f')))) k n (pc + 1) ls st) : gG z S EV Q M k n pc ls (.long v :: .int x :: .ref a :: st) := by
  intro H locs la hl hP hS
  obtain ⟨h1, rfl⟩ := hx
  subst hf
  refine W.last X.exec X.code (hP a t _ hM).1 ((X.env.1.2 7 _ rfl).1 N (fun j => .long (f j))) (fun q => by cases q) (by show ¬ (x < 0 ∨ (arrV _ _ _).slots.size ≤ _); rw [arrV_size]; exact h1) rfl rfl (X.dec hT) fun H1 e z1 oq => ?_
  refine kk H1 _ la hl (hP.up ?_ (hP a t _ hM).2 (fun q hq _ => oq q hq)) (hS.put z1 oq (hP a t _ hM).2)
  show H1[a]? = some (vp_cell _ _)
  rw [e]
  rw [vp_cell_l, vp_cell_l, arrV_store]
  congr 2
  funext q
  by_cases hq : q = x.toNatClampNeg
  · subst hq
    simp [updV, vp_updL]
  · simp [updV, vp_updL, hq]
/-! branches -/
def gCnd : Jvm.ClassFile.Cond → Int32 → Int32 → Prop × Prop
  | .eq, x, y => (x = y, ¬ x = y)
  | .ne, x, y => (¬ x = y, x = y)
  | .lt, x, y => (x < y, ¬ x < y)
  | .ge, x, y => (y ≤ x, ¬ y ≤ x)
  | .gt, x, y => (y < x, ¬ y < x)
  | .le, x, y => (x ≤ y, ¬ x ≤ y)
def gBr (i : Instr) (len pc : Nat) (st : List Value) : Option ((Prop × Prop) × Nat × List Value) := match i, len, st with
  | .if_icmp cd off, 3, .int y :: .int x :: st => match (pc : Int) + off with
    | .ofNat t => some (gCnd cd x y, t, st)
    | .negSucc _ => none
  | .ifCond cd off, 3, .int x :: st => match (pc : Int) + off with
    | .ofNat t => some (gCnd cd x (Int32.ofInt 0), t, st)
    | .negSucc _ => none
  | _, _, _ => none
def gBrS (tb : Nat → Option (Instr × Nat)) (pc : Nat) (st : List Value) : Option ((Prop × Prop) × Nat × List Value) := match tb pc with
  | some (i, len) => gBr i len pc st
  | none => none
theorem g_br (X : CX z S EV) {cs : Prop × Prop} {pc1 : Nat} {st1 : List Value} (h : gBrS S.2.2.2.2.1 pc st = some (cs, pc1, st1)) (kt : cs.1 → gG z S EV Q M k n pc1 ls st1) (kf : cs.2 → gG z S EV Q M k n (pc + 3) ls st1) : gG z S EV Q M k n pc ls st := by
  intro H locs la hl hP hS
  unfold gBrS at h
  split at h
  · rename_i i len hT
    have hd := X.dec hT
    unfold gBr at h
    split at h
    · rename_i cd off y x st2
      split at h
      · rename_i t0 ht
        cases h
        cases cd <;> first | exact lv_icmp_eq X.exec X.code hd ht (fun h => kt h H locs la hl hP hS) (fun h => kf h H locs la hl hP hS) | exact lv_icmp_ne X.exec X.code hd ht (fun h => kt h H locs la hl hP hS) (fun h => kf h H locs la hl hP hS) | exact lv_icmp_lt X.exec X.code hd ht (fun h => kt h H locs la hl hP hS) (fun h => kf h H locs la hl hP hS) | exact lv_icmp_ge X.exec X.code hd ht (fun h => kt h H locs la hl hP hS) (fun h => kf h H locs la hl hP hS) | exact lv_icmp_gt X.exec X.code hd ht (fun h => kt h H locs la hl hP hS) (fun h => kf h H locs la hl hP hS) | exact lv_icmp_le X.exec X.code hd ht (fun h => kt h H locs la hl hP hS) (fun h => kf h H locs la hl hP hS)
      · cases h
    · rename_i cd off x st2
      split at h
      · rename_i t0 ht
        cases h
        have e0 : Int32.ofInt 0 = (0 : Int32) := rfl
        rw [e0] at kt kf
        cases cd <;> first | exact lv_if_eq X.exec X.code hd ht (fun h => kt h H locs la hl hP hS) (fun h => kf h H locs la hl hP hS) | exact lv_if_ne X.exec X.code hd ht (fun h => kt h H locs la hl hP hS) (fun h => kf h H locs la hl hP hS) | exact lv_if_lt X.exec X.code hd ht (fun h => kt h H locs la hl hP hS) (fun h => kf h H locs la hl hP hS) | exact lv_if_ge X.exec X.code hd ht (fun h => kt h H locs la hl hP hS) (fun h => kf h H locs la hl hP hS) | exact lv_if_gt X.exec X.code hd ht (fun h => kt h H locs la hl hP hS) (fun h => kf h H locs la hl hP hS) | exact lv_if_le X.exec X.code hd ht (fun h => kt h H locs la hl hP hS) (fun h => kf h H locs la hl hP hS)
      · cases h
    · cases h
  · cases h
theorem g_irem (X : CX z S EV) {x y v : Int32} (hT : S.2.2.2.2.1 pc = some (.irem, 1)) (hy : ¬ y = 0) (kk : gG z S EV Q M k n (pc + 1) ls (.int (x - x / y * y) :: st)) : gG z S EV Q M k n pc ls (.int y :: .int x :: st) := by
  intro H locs la hl hP hS
  exact lv_irem X.exec X.code (X.dec hT) hy (kk H locs la hl hP hS)
theorem g_idiv (X : CX z S EV) {x y : Int32} (hT : S.2.2.2.2.1 pc = some (.idiv, 1)) (hy : ¬ y = 0) (kk : gG z S EV Q M k n (pc + 1) ls (.int (x / y) :: st)) : gG z S EV Q M k n pc ls (.int y :: .int x :: st) := by
  intro H locs la hl hP hS
  exact lv_idiv X.exec X.code (X.dec hT) hy (kk H locs la hl hP hS)
end GR
