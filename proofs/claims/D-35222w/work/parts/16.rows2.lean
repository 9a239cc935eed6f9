/-! ROWS, second part: statics, casts, arrays of references and of arrays, copies, old objects, handlers -/
section GR
variable {z : gZ} {S : gS} {EV : gEV} {Q : State → Prop} {M : gM} {k n pc : Nat} {ls : List (Option Value)} {st rest As : List Value} {mc ms d : Nat} {post : Option Value → gM → Prop} {px : String → gM → Prop}
theorem CX.stat (X : CX z S EV) : gStat EV z.2.2.2.2.1 z.2.2.2.2.1.heap := X.env.2.2.2.2.2
theorem CX.od0 (X : CX z S EV) : ¬ EV.2.2.1 ≤ EV.2.2.2 0 := va_T.out X.stat.2.2.2.1
theorem CX.od1 (X : CX z S EV) {i : Nat} (h : i < 6) : ¬ EV.2.2.1 ≤ EV.2.2.2 (10 + i) := by
  obtain ⟨cell, -, -, -, h4⟩ := (X.stat.2.2.2.2.2.1 i h).2.1
  exact h4
/-- a cell of ours lies from b0 on -/
theorem g_ge {a : Nat} {x : gTag × va_E} (h : M a = some x) (kk : EV.2.2.1 ≤ a → gG z S EV Q M k n pc ls st) : gG z S EV Q M k n pc ls st :=
  fun H locs la hl hP hS => kk (hP a x.1 x.2 h).2 H locs la hl hP hS
theorem g_gets (X : CX z S EV) {idx : Nat} {C nm ds ref : String} {v : Value} (hT : S.2.2.2.2.1 pc = some (.getstatic idx, 3)) (hZ : va_Z C nm ds v (gA EV) z.2.2.2.2.1 z.2.2.2.2.1.heap) (hl0 : Cond.fieldLink S.2.1 idx ref nm ds ∈ lw_all) (hs : C = ref ∨ Cond.sameField ref C nm ds ∈ lw_all)
    (kk : gG z S EV Q M k n (pc + 3) ls (v :: st)) : gG z S EV Q M k n pc ls st := by
  intro H locs la hl hP hS
  exact va_gets X.exec X.code hZ hS X.own (X.hts _ hl0) (gSame X hs) (X.dec hT) (kk H locs la hl hP hS)
theorem g_acmpE (X : CX z S EV) (rx ry : Option Nat) {off : Int} {tgt : Nat} (hT : S.2.2.2.2.1 pc = some (.if_acmp .eq off, 3)) (ht : (pc : Int) + off = (tgt : Int)) (hst : st = va_rf ry :: va_rf rx :: rest) (kt : rx = ry → gG z S EV Q M k n tgt ls rest) (kf : ¬ rx = ry → gG z S EV Q M k n (pc + 3) ls rest) : gG z S EV Q M k n pc ls st := by
  intro H locs la hl hP hS
  subst hst
  exact lv_acmp_eq X.exec X.code (X.dec hT) ht (fun h => kt h H locs la hl hP hS) (fun h => kf h H locs la hl hP hS)
theorem g_acmpN (X : CX z S EV) (rx ry : Option Nat) {off : Int} {tgt : Nat} (hT : S.2.2.2.2.1 pc = some (.if_acmp .ne off, 3)) (ht : (pc : Int) + off = (tgt : Int)) (hst : st = va_rf ry :: va_rf rx :: rest) (kt : ¬ rx = ry → gG z S EV Q M k n tgt ls rest) (kf : rx = ry → gG z S EV Q M k n (pc + 3) ls rest) : gG z S EV Q M k n pc ls st := by
  intro H locs la hl hP hS
  subst hst
  exact lv_acmp_ne X.exec X.code (X.dec hT) ht (fun h => kt h H locs la hl hP hS) (fun h => kf h H locs la hl hP hS)
theorem g_nw (X : CX z S EV) {w : Cond} (h : w ∈ lw_tbl) (hk : gKind w = true) : va_Nw w z.2.2.2.2.1 := X.env.2.1 w h hk
/-- an object of class ci may be taken for a thing of class nm -/
def gCa (own : String) (idx ci : Nat) (nm : String) : Prop := ∃ r : vw_C, vwCl[ci]? = some r ∧ Cond.classLink own idx nm ∈ lw_all ∧ (Cond.castable r.1 nm ∈ lw_tbl ∨ r.1 = nm)
theorem g_cast (X : CX z S EV) {idx ci b : Nat} {nm : String} {t : gTag} {fs : List Value} (hT : S.2.2.2.2.1 pc = some (.checkcast idx, 3)) (C : gCa S.2.1 idx ci nm) (hM : M b = some (t, .inr (ci, fs))) (kk : gG z S EV Q M k n (pc + 3) ls (.ref b :: st)) : gG z S EV Q M k n pc ls (.ref b :: st) := by
  intro H locs la hl hP hS
  obtain ⟨r, h1, h2, h3⟩ := C
  rcases h3 with h3 | h3
  · exact va_castY X.exec X.code X.own (X.hts _ h2) (g_nw X h3 rfl) (g_recv X hP hM h1) (X.dec hT) (kk H locs la hl hP hS)
  · subst h3
    exact va_castS X.exec X.code X.own (X.hts _ h2) (X.env.1.1 ci r h1).2 (g_recv X hP hM h1) (X.dec hT) (kk H locs la hl hP hS)
theorem g_instY (X : CX z S EV) {idx ci b : Nat} {nm : String} {t : gTag} {fs : List Value} (hT : S.2.2.2.2.1 pc = some (.instanceof idx, 3)) (C : gCa S.2.1 idx ci nm) (hM : M b = some (t, .inr (ci, fs))) (kk : gG z S EV Q M k n (pc + 3) ls (.int (Int32.ofInt 1) :: st)) : gG z S EV Q M k n pc ls (.ref b :: st) := by
  intro H locs la hl hP hS
  obtain ⟨r, h1, h2, h3⟩ := C
  rcases h3 with h3 | h3
  · exact va_instY X.exec X.code X.own (X.hts _ h2) (g_nw X h3 rfl) (g_recv X hP hM h1) (X.dec hT) (kk H locs la hl hP hS)
  · subst h3
    exact va_instS X.exec X.code X.own (X.hts _ h2) (X.env.1.1 ci r h1).2 (g_recv X hP hM h1) (X.dec hT) (kk H locs la hl hP hS)
def gNa (own : String) (idx ci : Nat) (nm : String) : Prop := ∃ r : vw_C, vwCl[ci]? = some r ∧ Cond.classLink own idx nm ∈ lw_all ∧ (r.1, nm) ∈ gNoCast
theorem g_instN (X : CX z S EV) {idx ci b : Nat} {nm : String} {t : gTag} {fs : List Value} (hT : S.2.2.2.2.1 pc = some (.instanceof idx, 3)) (C : gNa S.2.1 idx ci nm) (hM : M b = some (t, .inr (ci, fs))) (kk : gG z S EV Q M k n (pc + 3) ls (.int (Int32.ofInt 0) :: st)) : gG z S EV Q M k n pc ls (.ref b :: st) := by
  intro H locs la hl hP hS
  obtain ⟨r, h1, h2, h3⟩ := C
  exact va_instNo X.exec X.code X.own (X.hts _ h2) (X.env.2.2.2.2.1 _ h3) (g_recv X hP hM h1) (X.dec hT) (kk H locs la hl hP hS)
/-- arrays: i the place of the class in gTys -/
theorem g_castA (X : CX z S EV) (i : Nat) {idx b : Nat} {C nm : String} {t : gTag} {x : vp_A} (hT : S.2.2.2.2.1 pc = some (.checkcast idx, 3)) (hk : Cond.classLink S.2.1 idx nm ∈ lw_all) (hi : (gTys EV.2.1)[i]? = some (EV.2.1 i, .object C)) (hn : "[" ++ (FieldType.object C).toString = nm) (hM : M b = some (t, .inl (EV.2.1 i, x)))
    (kk : gG z S EV Q M k n (pc + 3) ls (.ref b :: st)) : gG z S EV Q M k n pc ls (.ref b :: st) := by
  intro H locs la hl hP hS
  exact va_castA X.exec X.code X.own (X.hts _ hk) (hP.one hM) 0 rfl (va_nmO (X.env.1.2 i _ hi).2 hn) (X.dec hT) (kk H locs la hl hP hS)
theorem g_aaldA (X : CX z S EV) (i : Nat) {ty : FieldType} {a : Nat} {t : gTag} {N j : Nat} {f : Nat → Option Nat} {x : Int32} {v : Value} (hT : S.2.2.2.2.1 pc = some (.aaload, 1)) (hi : (gTys EV.2.1)[i]? = some (EV.2.1 i, .array ty)) (hM : M a = some (t, .inl (EV.2.1 i, N, .inr (.inr (.inr (.inr f)))))) (hx : gIx x N j) (hv : va_rf (f j) = v)
    (kk : gG z S EV Q M k n (pc + 1) ls (v :: st)) : gG z S EV Q M k n pc ls (.int x :: .ref a :: st) := by
  intro H locs la hl hP hS
  obtain ⟨h1, rfl⟩ := hx
  subst hv
  have hlt : x.toNatClampNeg < N := Nat.not_le.mp fun q => h1 (Or.inr q)
  exact W.aald (v := va_rf (f x.toNatClampNeg)) (ty := .array ty) X.exec X.code (hP a t _ hM).1 ((X.env.1.2 i _ hi).1 N (fun j => va_rf (f j))) rfl (fun q => by cases q) (by show ¬ (x < 0 ∨ (arrV _ _ _).slots.size ≤ _); rw [arrV_size]; exact h1) (by show (arrV _ _ _).slots[_]? = _; rw [arrV_read _ _ hlt]) rfl rfl (X.dec hT) (kk H locs la hl hP hS)
theorem gUp_q {cA : ClassId} {N j : Nat} {f : Nat → Option Nat} {v : Nat} : (vp_cell cA (N, .inr (.inr (.inr (.inr f))))).setSlot j (.ref v) = vp_cell cA (N, .inr (.inr (.inr (.inr (va_up f j (some v)))))) := by
  rw [vp_cell_q, vp_cell_q, arrV_store]
  congr 2
  funext q
  by_cases hq : q = j
  · subst hq
    simp [updV, va_up, va_rf]
  · simp [updV, va_up, hq]
/-- a reference to an object of class ci into an array over E -/
theorem g_aast (X : CX z S EV) (i ci : Nat) {E : String} {a v : Nat} {t tv : gTag} {N j : Nat} {f f' : Nat → Option Nat} {x : Int32} {fs : List Value} {r : vw_C} (hT : S.2.2.2.2.1 pc = some (.aastore, 1)) (hi : (gTys EV.2.1)[i]? = some (EV.2.1 i, .object E)) (hM : M a = some (t, .inl (EV.2.1 i, N, .inr (.inr (.inr (.inr f))))))
    (hv : M v = some (tv, .inr (ci, fs))) (hc : vwCl[ci]? = some r) (hca : Cond.castable r.1 E ∈ lw_tbl ∨ r.1 = E) (hx : gIx x N j) (hf : va_up f j (some v) = f')
    (kk : gG z S EV Q (mU M a t (.inl (EV.2.1 i, N, .inr (.inr (.inr (.inr f')))))) k n (pc + 1) ls st) : gG z S EV Q M k n pc ls (.ref v :: .int x :: .ref a :: st) := by
  intro H locs la hl hP hS
  obtain ⟨h1, rfl⟩ := hx
  subst hf
  have hlt : x.toNatClampNeg < N := Nat.not_le.mp fun q => h1 (Or.inr q)
  have h0 : ¬ x < 0 := fun q => h1 (Or.inl q)
  obtain ⟨cellV, g1, g3, g2⟩ := g_recv X hP hv hc
  obtain ⟨kA, comp, k1, k2, k3, -⟩ := (X.env.1.2 i _ hi).2
  obtain ⟨kE, hkE, -⟩ := Vm.findClass_spec k3
  obtain ⟨kC, hkC, -⟩ := Vm.findClass_spec g2
  have hasg : z.2.2.2.2.1.vm.assignable cellV.cls comp = true := by
    rcases hca with hca | hca
    · exact vb_asgC (g_nw X hca rfl) comp _ k3 g2
    · rw [hca] at g2
      exact vb_asgS (C := E) comp _ k3 g2
  refine W.aast X.exec X.code (hP a t _ hM).1 (fun q h => by cases h) (fun h => by cases h) k1 k2 rfl hkE ⟨h0, by show _ < (arrV _ _ _).slots.size; rw [arrV_size]; exact hlt⟩ g1 (fun q h => by rw [h] at g3; cases g3) hkC hasg rfl rfl (X.dec hT) fun H1 e z1 oq => ?_
  refine kk H1 _ la hl (hP.up ?_ (hP a t _ hM).2 (fun q hq _ => oq q hq)) (hS.put z1 oq (hP a t _ hM).2)
  show H1[a]? = some (vp_cell _ _)
  rw [e, gUp_q]
theorem gAA.kind (X : CX z S EV) (i i0 : Nat) {ty : FieldType} (h : gAA ty z.2.2.2.2.1) (hi : (gTys EV.2.1)[i]? = some (EV.2.1 i, .array ty)) (hi0 : (gTys EV.2.1)[i0]? = some (EV.2.1 i0, ty)) (hp : ∀ (U : State) (cA : ClassId), va_RA U cA ty → U.vm.findClass (FieldType.array ty).toString = some cA) :
    ∃ kA kE : Class, z.2.2.2.2.1.vm.classes[EV.2.1 i]? = some kA ∧ kA.kind = .array (EV.2.1 i0) (.array ty) ∧ z.2.2.2.2.1.vm.classes[EV.2.1 i0]? = some kE := by
  obtain ⟨comp, c, k', h1, h2, h3, h4, h5⟩ := arrayOverA_spec h
  have e1 : z.2.2.2.2.1.vm.findClass ("[" ++ (FieldType.array ty).toString) = some (EV.2.1 i) := (X.env.1.2 i _ hi).2
  have e2 := hp _ _ (X.env.1.2 i0 _ hi0).2
  cases h5.symm.trans e1
  cases h1.symm.trans e2
  obtain ⟨kE, hkE, -⟩ := Vm.findClass_spec e2
  exact ⟨k', kE, h3, h4, hkE⟩
/-- an array of ints into an array of arrays -/
theorem g_aastA (X : CX z S EV) {a v : Nat} {t tv : gTag} {N j : Nat} {f f' : Nat → Option Nat} {x : Int32} {y : vp_A} (hT : S.2.2.2.2.1 pc = some (.aastore, 1)) (hM : M a = some (t, .inl (EV.2.1 5, N, .inr (.inr (.inr (.inr f)))))) (hv : M v = some (tv, .inl (EV.2.1 0, y))) (hx : gIx x N j) (hf : va_up f j (some v) = f')
    (kk : gG z S EV Q (mU M a t (.inl (EV.2.1 5, N, .inr (.inr (.inr (.inr f')))))) k n (pc + 1) ls st) : gG z S EV Q M k n pc ls (.ref v :: .int x :: .ref a :: st) := by
  intro H locs la hl hP hS
  obtain ⟨h1, rfl⟩ := hx
  subst hf
  have hlt : x.toNatClampNeg < N := Nat.not_le.mp fun q => h1 (Or.inr q)
  have h0 : ¬ x < 0 := fun q => h1 (Or.inl q)
  obtain ⟨kA, kE, k1, k2, hkE⟩ := gAA.kind X 5 0 X.stat.2.2.2.2.2.2.2.1 rfl rfl (fun _ _ h => h)
  have g1 : H[v]? = some (vp_cell (EV.2.1 0) y) := (hP v tv _ hv).1
  have hvm0 : (vp_cell (EV.2.1 0) y).vm = .none := by obtain ⟨m, f | f | f | f | f⟩ := y <;> rfl
  have hcl0 : (vp_cell (EV.2.1 0) y).cls = EV.2.1 0 := by obtain ⟨m, f | f | f | f | f⟩ := y <;> rfl
  refine W.aast X.exec X.code (hP a t _ hM).1 (fun q h => by cases h) (fun h => by cases h) k1 k2 rfl hkE ⟨h0, by show _ < (arrV _ _ _).slots.size; rw [arrV_size]; exact hlt⟩ g1 (fun q h => by rw [hvm0] at h; cases h) (by rw [hcl0]; exact hkE) (by rw [hcl0]; exact va_asg _ _) rfl rfl (X.dec hT) fun H1 e z1 oq => ?_
  refine kk H1 _ la hl (hP.up ?_ (hP a t _ hM).2 (fun q hq _ => oq q hq)) (hS.put z1 oq (hP a t _ hM).2)
  show H1[a]? = some (vp_cell _ _)
  rw [e, gUp_q]
/-- a row of rows of ints, its rows not made yet -/
theorem g_newqA (X : CX z S EV) (t : gTag) {idx : Nat} {x : Int32} {N : Nat} (hT : S.2.2.2.2.1 pc = some (.anewarray idx, 3)) (hk : Cond.classLink S.2.1 idx "[I" ∈ lw_all) (hx : ¬ x < 0) (hN : x.toNatClampNeg = N) (hby : N ≤ 100000) (hc : k + 1 ≤ z.2.2.2.1.cells) (hs : n + N ≤ z.2.2.2.1.slots)
    (kk : ∀ q : Nat, M q = none → gG z S EV Q (mU M q t (.inl (EV.2.1 5, N, .inr (.inr (.inr (.inr (fun _ => none))))))) (k + 1) (n + N) (pc + 3) ls (.ref q :: st)) : gG z S EV Q M k n pc ls (.int x :: st) := by
  intro H locs la hl hP hS
  subst hN
  refine W.anewA (t := .int) X.exec X.code X.own (X.hts _ hk) X.stat.2.2.2.2.2.2.2.1 rfl (X.dec hT) rfl hx (by omega) hc hs fun cA kA comp f1 f2 f3 f4 => ?_
  have hcA : cA = EV.2.1 5 := Option.some.inj (f1.symm.trans (X.env.1.2 5 _ rfl).2)
  subst hcA
  generalize hH1 : H.push ({ cls := EV.2.1 5, slots := Array.replicate x.toNatClampNeg .null, vm := .none } : Cell) = H1
  have z1 : H1.size = H.size + 1 := by rw [← hH1, Array.size_push]
  have e1 : H1[H.size]? = some (arrV (EV.2.1 5) x.toNatClampNeg (fun _ => .null)) := by rw [← hH1, Array.getElem?_push_size, ← arrV_new]
  have o1 : ∀ q : Nat, q < H.size → H1[q]? = H[q]? := fun q hq => by rw [← hH1, Array.getElem?_push, if_neg (Nat.ne_of_lt hq)]
  refine kk H.size hP.fresh H1 locs la hl (hP.new (Nat.le_trans X.base hS.1) ?_ o1) (gS.new hS z1 o1)
  show H1[H.size]? = some (vp_cell _ _)
  rw [vp_cell_q]
  exact e1
/-- a class as an object -/
theorem g_ldcM (X : CX z S EV) {idx : Nat} (hT : S.2.2.2.2.1 pc = some (.ldc idx, 2)) (hk : Cond.classLink S.2.1 idx "[Ljava/lang/Object;" ∈ lw_all) (kk : gG z S EV Q M k n (pc + 2) ls (.ref (EV.2.2.2 1) :: st)) : gG z S EV Q M k n pc ls st := by
  intro H locs la hl hP hS
  exact va_ldcM X.exec X.code X.own (X.hts _ hk) X.stat.2.2.2.2.1 (X.dec hT) (kk H locs la hl hP hS)
theorem g_getC (X : CX z S EV) {idx a : Nat} {t : gTag} {x : vp_A} (hT : S.2.2.2.2.1 pc = some (.invokevirtual idx, 3)) (hk : Cond.methodLink S.2.1 idx ⟨"java/lang/Object", "getClass", "()Ljava/lang/Class;"⟩ ∈ lw_all) (hd : Cond.declares ⟨"java/lang/Object", "getClass", "()Ljava/lang/Class;"⟩ ∈ lw_tbl)
    (h1 : Cond.selects "[Ljava/lang/Object;" ⟨"java/lang/Object", "getClass", "()Ljava/lang/Class;"⟩ ⟨"java/lang/Object", "getClass", "()Ljava/lang/Class;"⟩ ∈ lw_all) (h2 : Cond.instanceMethod ⟨"java/lang/Object", "getClass", "()Ljava/lang/Class;"⟩ ∈ lw_all) (h3 : Cond.native ⟨"java/lang/Object", "getClass", "()Ljava/lang/Class;"⟩ ∈ lw_all)
    (hM : M a = some (t, .inl (EV.2.1 2, x))) (hf : 1 ≤ z.2.2.2.1.frames ∧ 64 ≤ z.2.2.2.1.locals) (hw : (st.map fun v => v.category).sum ≤ 8) (kk : gG z S EV Q M k n (pc + 3) ls (.ref (EV.2.2.2 1) :: st)) : gG z S EV Q M k n pc ls (.ref a :: st) := by
  intro H locs la hl hP hS
  have hr : ∃ cell : Cell, H[a]? = some cell ∧ cell.vm.isStatics = false ∧ z.2.2.2.2.1.vm.findClass "[Ljava/lang/Object;" = some cell.cls := by
    refine ⟨_, (hP a t _ hM).1, by obtain ⟨m, f | f | f | f | f⟩ := x <;> rfl, ?_⟩
    have e1 : (vp_cell (EV.2.1 2) x).cls = EV.2.1 2 := by obtain ⟨m, f | f | f | f | f⟩ := x <;> rfl
    show _ = some (vp_cell (EV.2.1 2) x).cls
    rw [e1]
    exact va_nmO (X.env.1.2 2 _ rfl).2 (by decide +kernel)
  exact va_getC X.exec X.code (X.maxL.trans hl.1.1.symm) X.own (X.hts _ hk) (va_Nw.use rfl (g_nw X hd rfl)) (X.hts _ h1) (X.hts _ h2) (X.hts _ h3) X.stat.2.2.2.2.1 hr hf.1 (by omega) (X.dec hT) (kk H locs la hl hP hS)
end GR
