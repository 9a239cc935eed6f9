/-! ROWS, third part: copies of arrays, rows of rows, old objects as receivers, nest mates, handlers -/
section GR
variable {z : gZ} {S : gS} {EV : gEV} {Q : State → Prop} {M : gM} {k n pc : Nat} {ls : List (Option Value)} {st rest As : List Value} {mc ms d : Nat} {post : Option Value → gM → Prop} {px : String → gM → Prop}
theorem g_nn {x : Int32} (hx : ¬ x < 0) : x.toInt = (x.toNatClampNeg : Int) := by
  have hz0 : (0 : Int) ≤ x.toInt := by
    have := Int32.not_lt.mp hx
    simpa using Int32.le_iff_toInt_le.mp this
  show x.toInt = ((x.toInt.toNat : Nat) : Int)
  omega
theorem gS.many {H0 H H1 : Heap} {locs L : List Loc} {a : Nat} (h : va_S (gA EV) H0 H locs) (z1 : H1.size = H.size) (oq : ∀ q : Nat, q ≠ a → H1[q]? = H[q]?) (ha : EV.2.2.1 ≤ a) (hL : ∀ l ∈ L, l.base = a) : va_S (gA EV) H0 H1 (locs ++ L) := by
  refine ⟨by rw [z1]; exact h.1, fun q g1 g2 => ?_, fun q hq => ?_⟩
  · rw [oq q (fun e => g2 (by rw [e]; exact ha))]
    exact h.2.1 q g1 g2
  · rcases List.mem_append.mp hq with h9 | h9
    · exact h.2.2 q h9
    · show EV.2.2.1 ≤ q.base
      rw [hL q h9]; exact ha
/-- the words of System.arraycopy -/
def gCp (own : String) (idx : Nat) : Prop := Cond.methodLink own idx arraycopyName ∈ lw_all ∧ Cond.native arraycopyName ∈ lw_all ∧ Cond.static arraycopyName ∈ lw_all ∧ Cond.initialized "java/lang/System" ∈ lw_all
/-- ints from one array to another -/
theorem g_copyI (X : CX z S EV) {idx a0 a : Nat} {t0 t : gTag} {n0 n1 : Nat} {f g f' : Nat → Int32} {sp dp len : Int32} (hT : S.2.2.2.2.1 pc = some (.invokestatic idx, 3)) (C : gCp S.2.1 idx) (ha0 : M a0 = some (t0, .inl (EV.2.1 0, n0, .inl f))) (ha1 : M a = some (t, .inl (EV.2.1 0, n1, .inl g)))
    (h1 : ¬ sp < 0) (h2 : ¬ dp < 0) (h3 : ¬ len < 0) (h4 : sp.toNatClampNeg + len.toNatClampNeg ≤ n0) (h5 : dp.toNatClampNeg + len.toNatClampNeg ≤ n1) (hf : va_cpy f g sp.toNatClampNeg dp.toNatClampNeg len.toNatClampNeg = f') (hfr : 1 ≤ z.2.2.2.1.frames ∧ 64 ≤ z.2.2.2.1.locals) (hw : (st.map fun v => v.category).sum ≤ 8)
    (kk : gG z S EV Q (mU M a t (.inl (EV.2.1 0, n1, .inl f'))) k n (pc + 3) ls st) : gG z S EV Q M k n pc ls (.int len :: .int dp :: .ref a :: .int sp :: .ref a0 :: st) := by
  intro H locs la hl hP hS
  subst hf
  obtain ⟨L1, L2, L3, L4⟩ := C
  intro T hT9 X9
  have hc0 : H[a0]? = some (vp_cell (EV.2.1 0) (n0, .inl f)) := (hP a0 _ _ ha0).1
  have hc1 : H[a]? = some (vp_cell (EV.2.1 0) (n1, .inl g)) := (hP a _ _ ha1).1
  obtain ⟨-, k0, hk0, cm0, hkk0⟩ := (X.env.1.2 0 _ rfl).1 n0 (fun j => .int (f j))
  obtain ⟨-, k1, hk1, cm1, hkk1⟩ := (X.env.1.2 0 _ rfl).1 n1 (fun j => .int (g j))
  have hfw : nativeFrameWords "java/lang/System" "arraycopy" 5 + 11 ≤ 30 := by decide
  obtain ⟨vm', X', step⟩ := X9.arraycopy X.exec X.own (X.hts _ L1) (X.hts _ L2) (X.hts _ L3) (X.hts _ L4) (src := a0) (dst := a) (cs := vp_cell (EV.2.1 0) (n0, .inl f)) (cd := vp_cell (EV.2.1 0) (n1, .inl g)) (srcPos := sp) (destPos := dp) (n := len) (by rw [hT9]; exact hc0) (by rw [hT9]; exact hc1)
    (fun _ h => by cases h) (fun _ h => by cases h) (fun h => by cases h) (fun h => by cases h) hk0 hk1 hkk0 hkk1 (by simp [refKind]) h1 h2 h3
    (by rw [g_nn h1, g_nn h3]; show ¬ _ > ((arrV (EV.2.1 0) n0 (fun j => .int (f j))).slots.size : Int); rw [arrV_size]; omega)
    (by rw [g_nn h2, g_nn h3]; show ¬ _ > ((arrV (EV.2.1 0) n1 (fun j => .int (g j))).slots.size : Int); rw [arrV_size]; omega)
    (fun vm₁ _ i hi => by
      have e : (vp_cell (EV.2.1 0) (n0, .inl f)).slots.getD (sp.toNatClampNeg + i) .null = .int (f (sp.toNatClampNeg + i)) := by
        show (arrV (EV.2.1 0) n0 (fun j => .int (f j))).slots.getD _ _ = _
        rw [Array.getD_eq_getD_getElem?, arrV_read _ _ (by omega)]
        rfl
      rw [e]
      exact ⟨rfl, trivial⟩)
    (g := F0 z.2.2.2.2.2.1 pc la (.int len :: .int dp :: .ref a :: .int sp :: .ref a0 :: st)) rfl (hl.1.1.trans X.maxL.symm) (rest := st) rfl (by rw [X.code]; exact X.dec hT) hfr.1 (by show 2 * 0 + _ + _ ≤ _; omega)
  have e1 : copied (vp_cell (EV.2.1 0) (n0, .inl f)) (vp_cell (EV.2.1 0) (n1, .inl g)) sp dp len = vp_cell (EV.2.1 0) (n1, .inl (va_cpy f g sp.toNatClampNeg dp.toNatClampNeg len.toNatClampNeg)) := va_copied (fun z => .int z) (EV.2.1 0) (EV.2.1 0) f g h4
  rw [e1] at X' step
  have hlt : a < H.size := (Array.getElem?_eq_some_iff.mp hc1).1
  have hheap : ((T.setVm vm').setCell a (vp_cell (EV.2.1 0) (n1, .inl (va_cpy f g sp.toNatClampNeg dp.toNatClampNeg len.toNatClampNeg)))).heap = H.setIfInBounds a (vp_cell (EV.2.1 0) (n1, .inl (va_cpy f g sp.toNatClampNeg dp.toNatClampNeg len.toNatClampNeg))) := by rw [← hT9]; rfl
  have oq : ∀ q : Nat, q ≠ a → (H.setIfInBounds a (vp_cell (EV.2.1 0) (n1, .inl (va_cpy f g sp.toNatClampNeg dp.toNatClampNeg len.toNatClampNeg))))[q]? = H[q]? := fun q hq => by simp [Array.getElem?_setIfInBounds, Ne.symm hq]
  obtain ⟨t9, a1, b1⟩ := kk _ _ la hl (hP.up (show (H.setIfInBounds a _)[a]? = some _ by simp [Array.getElem?_setIfInBounds, hlt]) (hP a _ _ ha1).2 (fun q hq _ => oq q hq))
    (gS.many hS (by simp) oq (hP a _ _ ha1).2 (fun q hq => by
      obtain ⟨z9, -, hz⟩ := List.mem_map.mp hq
      rw [← hz])) _ hheap X'
  exact ⟨t9, step t9 a1, b1⟩
/-- references to objects, from one array of Object to another -/
theorem g_copyQ (X : CX z S EV) {idx a0 a : Nat} {t0 t : gTag} {n0 n1 : Nat} {f g f' : Nat → Option Nat} {sp dp len : Int32} (hT : S.2.2.2.2.1 pc = some (.invokestatic idx, 3)) (C : gCp S.2.1 idx) (ha0 : M a0 = some (t0, .inl (EV.2.1 2, n0, .inr (.inr (.inr (.inr f)))))) (ha1 : M a = some (t, .inl (EV.2.1 2, n1, .inr (.inr (.inr (.inr g))))))
    (h1 : ¬ sp < 0) (h2 : ¬ dp < 0) (h3 : ¬ len < 0) (h4 : sp.toNatClampNeg + len.toNatClampNeg ≤ n0) (h5 : dp.toNatClampNeg + len.toNatClampNeg ≤ n1) (hel : ∀ i : Nat, i < len.toNatClampNeg → ∀ y : Nat, f (sp.toNatClampNeg + i) = some y → ∃ (ty : gTag) (ci : Nat) (r : vw_C) (fs : List Value), M y = some (ty, .inr (ci, fs)) ∧ vwCl[ci]? = some r ∧ Cond.castable r.1 "java/lang/Object" ∈ lw_tbl)
    (hf : va_cpy f g sp.toNatClampNeg dp.toNatClampNeg len.toNatClampNeg = f') (hfr : 1 ≤ z.2.2.2.1.frames ∧ 64 ≤ z.2.2.2.1.locals) (hw : (st.map fun v => v.category).sum ≤ 8)
    (kk : gG z S EV Q (mU M a t (.inl (EV.2.1 2, n1, .inr (.inr (.inr (.inr f')))))) k n (pc + 3) ls st) : gG z S EV Q M k n pc ls (.int len :: .int dp :: .ref a :: .int sp :: .ref a0 :: st) := by
  intro H locs la hl hP hS
  subst hf
  obtain ⟨L1, L2, L3, L4⟩ := C
  intro T hT9 X9
  have hc0 : H[a0]? = some (vp_cell (EV.2.1 2) (n0, .inr (.inr (.inr (.inr f))))) := (hP a0 _ _ ha0).1
  have hc1 : H[a]? = some (vp_cell (EV.2.1 2) (n1, .inr (.inr (.inr (.inr g))))) := (hP a _ _ ha1).1
  obtain ⟨-, k0, hk0, cm0, hkk0⟩ := (X.env.1.2 2 _ rfl).1 n0 (fun j => va_rf (f j))
  obtain ⟨-, k1, hk1, cm1, hkk1⟩ := (X.env.1.2 2 _ rfl).1 n1 (fun j => va_rf (g j))
  have hfw : nativeFrameWords "java/lang/System" "arraycopy" 5 + 11 ≤ 30 := by decide
  obtain ⟨vm', X', step⟩ := X9.arraycopy X.exec X.own (X.hts _ L1) (X.hts _ L2) (X.hts _ L3) (X.hts _ L4) (src := a0) (dst := a) (cs := vp_cell (EV.2.1 2) (n0, .inr (.inr (.inr (.inr f))))) (cd := vp_cell (EV.2.1 2) (n1, .inr (.inr (.inr (.inr g))))) (srcPos := sp) (destPos := dp) (n := len) (by rw [hT9]; exact hc0) (by rw [hT9]; exact hc1)
    (fun _ h => by cases h) (fun _ h => by cases h) (fun h => by cases h) (fun h => by cases h) hk0 hk1 hkk0 hkk1 rfl h1 h2 h3
    (by rw [g_nn h1, g_nn h3]; show ¬ _ > ((arrV (EV.2.1 2) n0 (fun j => va_rf (f j))).slots.size : Int); rw [arrV_size]; omega)
    (by rw [g_nn h2, g_nn h3]; show ¬ _ > ((arrV (EV.2.1 2) n1 (fun j => va_rf (g j))).slots.size : Int); rw [arrV_size]; omega)
    (fun vm₁ hal i hi => by
      have e : (vp_cell (EV.2.1 2) (n0, .inr (.inr (.inr (.inr f))))).slots.getD (sp.toNatClampNeg + i) .null = va_rf (f (sp.toNatClampNeg + i)) := by
        show (arrV (EV.2.1 2) n0 (fun j => va_rf (f j))).slots.getD _ _ = _
        rw [Array.getD_eq_getD_getElem?, arrV_read _ _ (by omega)]
        rfl
      rw [e]
      cases hy : f (sp.toNatClampNeg + i) with
      | none => exact ⟨rfl, trivial⟩
      | some y =>
        obtain ⟨ty, ci, r, fs, m1, m2, m3⟩ := hel i hi y hy
        obtain ⟨cellV, g1, g2, g3⟩ := g_recv X hP m1 m2
        obtain ⟨kA, comp, r1, r2, r3, -⟩ := (X.env.1.2 2 _ rfl).2
        cases hk1.symm.trans r1
        cases hkk1.symm.trans r2
        obtain ⟨kC, hkC, -⟩ := Vm.findClass_spec g3
        obtain ⟨kE, hkE, -⟩ := Vm.findClass_spec r3
        obtain ⟨kC', hkC', -⟩ := hal.2.2 _ _ hkC
        obtain ⟨kE', hkE', -⟩ := hal.2.2 _ _ hkE
        have hasg : z.2.2.2.2.1.vm.assignable cellV.cls cm1 = true := vb_asgC (g_nw X m3 rfl) cm1 _ r3 g3
        refine ⟨rfl, cellV, by show T.heap[y]? = _; rw [hT9]; exact g1, VmData.noStatics_of g2, ⟨kC', hkC'⟩, ⟨kE', hkE'⟩, ?_⟩
        show vm₁.assignable _ _ = true
        rw [hal.assignable]
        exact hasg)
    (g := F0 z.2.2.2.2.2.1 pc la (.int len :: .int dp :: .ref a :: .int sp :: .ref a0 :: st)) rfl (hl.1.1.trans X.maxL.symm) (rest := st) rfl (by rw [X.code]; exact X.dec hT) hfr.1 (by show 2 * 0 + _ + _ ≤ _; omega)
  have e1 : copied (vp_cell (EV.2.1 2) (n0, .inr (.inr (.inr (.inr f))))) (vp_cell (EV.2.1 2) (n1, .inr (.inr (.inr (.inr g))))) sp dp len = vp_cell (EV.2.1 2) (n1, .inr (.inr (.inr (.inr (va_cpy f g sp.toNatClampNeg dp.toNatClampNeg len.toNatClampNeg))))) := by
    rw [vp_cell_q, vp_cell_q, vp_cell_q]
    exact va_copied (fun z => va_rf z) (EV.2.1 2) (EV.2.1 2) f g h4
  rw [e1] at X' step
  have hlt : a < H.size := (Array.getElem?_eq_some_iff.mp hc1).1
  have hheap : ((T.setVm vm').setCell a (vp_cell (EV.2.1 2) (n1, .inr (.inr (.inr (.inr (va_cpy f g sp.toNatClampNeg dp.toNatClampNeg len.toNatClampNeg))))))).heap = H.setIfInBounds a (vp_cell (EV.2.1 2) (n1, .inr (.inr (.inr (.inr (va_cpy f g sp.toNatClampNeg dp.toNatClampNeg len.toNatClampNeg)))))) := by rw [← hT9]; rfl
  have oq : ∀ q : Nat, q ≠ a → (H.setIfInBounds a (vp_cell (EV.2.1 2) (n1, .inr (.inr (.inr (.inr (va_cpy f g sp.toNatClampNeg dp.toNatClampNeg len.toNatClampNeg)))))))[q]? = H[q]? := fun q hq => by simp [Array.getElem?_setIfInBounds, Ne.symm hq]
  obtain ⟨t9, a1, b1⟩ := kk _ _ la hl (hP.up (show (H.setIfInBounds a _)[a]? = some _ by simp [Array.getElem?_setIfInBounds, hlt]) (hP a _ _ ha1).2 (fun q hq _ => oq q hq))
    (gS.many hS (by simp) oq (hP a _ _ ha1).2 (fun q hq => by
      obtain ⟨z9, -, hz⟩ := List.mem_map.mp hq
      rw [← hz])) _ hheap X'
  exact ⟨t9, step t9 a1, b1⟩
/-- a row of n rows of len numbers: the rows lie behind it -/
def gRow (M : gM) (q : Nat) (t tr : gTag) (cA cI : ClassId) (N K : Nat) : gM := fun a => if a = q then some (t, .inl (cA, N, .inr (.inr (.inr (.inr (fun j => if j < N then some (q + 1 + j) else none)))))) else if q < a ∧ a ≤ q + N then some ((tr.1, tr.2 + (a - (q + 1))), .inl (cI, K, .inl (fun _ => 0))) else M a
theorem g_multi (X : CX z S EV) (t tr : gTag) (i i0 : Nat) {ty : FieldType} (hty : ty = .int ∧ i = 5 ∧ i0 = 0 ∨ ty = .boolean ∧ i = 6 ∧ i0 = 1) {idx : Nat} {x y : Int32} {N K : Nat} (hT : S.2.2.2.2.1 pc = some (.multianewarray idx 2, 4)) (hk : Cond.classLink S.2.1 idx ("[" ++ (FieldType.array ty).toString) ∈ lw_all)
    (hx : ¬ x < 0) (hN : x.toNatClampNeg = N) (hy : ¬ y < 0) (hK : y.toNatClampNeg = K) (hb : N ≤ 10000 ∧ K ≤ 10000) (hc : k + (1 + N) ≤ z.2.2.2.1.cells) (hs : n + (N + N * K) ≤ z.2.2.2.1.slots)
    (kk : ∀ q : Nat, (∀ a : Nat, q ≤ a → M a = none) → gG z S EV Q (gRow M q t tr (EV.2.1 i) (EV.2.1 i0) N K) (k + 1 + N) (n + N + N * K) (pc + 4) ls (.ref q :: st)) : gG z S EV Q M k n pc ls (.int y :: .int x :: st) := by
  intro H locs la hl hP hS
  subst hN; subst hK
  intro T hT9 X9
  have hAO : (Cond.arrayOver (.array ty)).before #[] z.2.2.2.2.1 = true := by
    rcases hty with ⟨rfl, -, -⟩ | ⟨rfl, -, -⟩
    · exact X.stat.2.2.2.2.2.2.2.1
    · exact X.stat.2.2.2.2.2.2.2.2
  have hAC : Cond.arrayClass ty ∈ lw_all := by
    rcases hty with ⟨rfl, -, -⟩ | ⟨rfl, -, -⟩
    · exact q221
    · exact q199
  have hcb : componentBytes ty ≤ 4 := by rcases hty with ⟨rfl, -, -⟩ | ⟨rfl, -, -⟩ <;> decide
  have hdv : defaultValue ty = .int 0 := by rcases hty with ⟨rfl, -, -⟩ | ⟨rfl, -, -⟩ <;> rfl
  have hb2 : y.toNatClampNeg * componentBytes ty ≤ 536870912 := by
    have := Nat.mul_le_mul hb.2 hcb
    omega
  obtain ⟨vm₁, cA, comp, hW, hfA, hfC, hO, hI, X1, step⟩ := X9.multianewarray2F (ty := ty) X.exec X.own (X.hts _ hk) hAO (X.hts _ hAC) (g := F0 z.2.2.2.2.2.1 pc la (.int y :: .int x :: st)) rfl (by rw [X.code]; exact X.dec hT) rfl hx hy (by omega) hb2 (by omega) (by rcases hty with ⟨rfl, -, -⟩ | ⟨rfl, -, -⟩ <;> rfl) (by rcases hty with ⟨rfl, -, -⟩ | ⟨rfl, -, -⟩ <;> rfl) hc hs
  have hi : (gTys EV.2.1)[i]? = some (EV.2.1 i, .array ty) := by rcases hty with ⟨rfl, rfl, -⟩ | ⟨rfl, rfl, -⟩ <;> rfl
  have hi0 : (gTys EV.2.1)[i0]? = some (EV.2.1 i0, ty) := by rcases hty with ⟨rfl, -, rfl⟩ | ⟨rfl, -, rfl⟩ <;> rfl
  have hcA : cA = EV.2.1 i := Option.some.inj (hfA.symm.trans (X.env.1.2 i _ hi).2)
  have hr0 : z.2.2.2.2.1.vm.findClass (FieldType.array ty).toString = some (EV.2.1 i0) := by
    have h9 := (X.env.1.2 i0 _ hi0).2
    rcases hty with ⟨rfl, -, -⟩ | ⟨rfl, -, -⟩ <;> exact h9
  have hco : comp = EV.2.1 i0 := Option.some.inj (hfC.symm.trans hr0)
  subst hcA; subst hco
  generalize hF : Jvm.Free.Multi.fill (T.setVm vm₁) (EV.2.1 i) (EV.2.1 i0) x.toNatClampNeg y.toNatClampNeg (defaultValue ty) x.toNatClampNeg = TF at X1 step
  have hsz : (T.setVm vm₁).heap.size = H.size := by rw [← hT9]; rfl
  obtain ⟨f1, f2, f3, f4⟩ := Jvm.Free.Multi.fill_facts (T.setVm vm₁) (EV.2.1 i) (EV.2.1 i0) x.toNatClampNeg y.toNatClampNeg (defaultValue ty) x.toNatClampNeg
  have f5 := fun (q : Nat) (h : q < (T.setVm vm₁).heap.size) => Jvm.Free.Multi.fill_old (T.setVm vm₁) (EV.2.1 i) (EV.2.1 i0) x.toNatClampNeg y.toNatClampNeg (defaultValue ty) (a := q) h x.toNatClampNeg
  have f6 := fun (j : Nat) (h : j < x.toNatClampNeg) => Jvm.Free.Multi.fill_inner (T.setVm vm₁) (EV.2.1 i) (EV.2.1 i0) x.toNatClampNeg y.toNatClampNeg (defaultValue ty) x.toNatClampNeg j h
  rw [hF, hsz] at f1 f2
  rw [hF] at f5 f6
  rw [hsz] at f5 f6
  have o1 : ∀ q : Nat, q < H.size → TF.heap[q]? = H[q]? := fun q hq => (f5 q hq).trans (by rw [← hT9]; rfl)
  have hout : ∀ j, (Jvm.Free.Multi.outerC (EV.2.1 i) x.toNatClampNeg H.size j) = arrV (EV.2.1 i) x.toNatClampNeg (fun q => if q < j then .ref (H.size + 1 + q) else .null) := by
    intro j
    induction j with
    | zero => rw [Jvm.Free.Multi.outerC]; simp only [Nat.not_lt_zero, if_false]; rw [arrV_new]
    | succ j ih =>
      rw [Jvm.Free.Multi.outerC, ih, arrV_store]
      congr 1
      funext q
      simp only [updV]
      by_cases h : q = j
      · subst h; simp
      · by_cases h2 : q < j
        · rw [if_neg h, if_pos h2, if_pos (by omega)]
        · rw [if_neg h, if_neg h2, if_neg (by omega)]
  have hP1 : gP EV (gRow M H.size t tr (EV.2.1 i) (EV.2.1 i0) x.toNatClampNeg y.toNatClampNeg) TF.heap := by
    intro a t' e' h
    unfold gRow at h
    split at h
    · rename_i h9
      subst h9
      cases h
      refine ⟨?_, Nat.le_trans X.base hS.1⟩
      show TF.heap[H.size]? = some (vp_cell _ _)
      rw [vp_cell_q, f2, hout]
      congr 2
      funext q
      by_cases h : q < x.toNatClampNeg
      · simp [h, va_rf]
      · simp [h, va_rf]
    · split at h
      · rename_i h9 h8
        cases h
        refine ⟨?_, Nat.le_trans (Nat.le_trans X.base hS.1) (by omega)⟩
        show TF.heap[a]? = some (vp_cell _ _)
        have h7 := f6 (a - (H.size + 1)) (by omega)
        rw [show H.size + 1 + (a - (H.size + 1)) = a by omega] at h7
        rw [h7, vp_cell_i, hdv]
        unfold Jvm.Free.Multi.innerC
        rw [← arrV_new]
      · exact ⟨(hP a t' e' h).1.kept (o1 a (hP.lt h)), (hP a t' e' h).2⟩
  have hnone : ∀ a : Nat, H.size ≤ a → M a = none := fun a ha => by
    cases hx9 : M a with
    | none => rfl
    | some w => exact absurd (hP.lt hx9) (by omega)
  obtain ⟨t9, a1, b1⟩ := kk H.size hnone TF.heap locs la hl hP1 ⟨Nat.le_trans hS.1 (by omega), fun q h1 h2 => (o1 q (Nat.lt_of_lt_of_le h1 hS.1)).trans (hS.2.1 q h1 h2), hS.2.2⟩ TF rfl X1
  refine ⟨t9, step t9 ?_, b1⟩
  rw [hT9]
  exact a1
end GR
