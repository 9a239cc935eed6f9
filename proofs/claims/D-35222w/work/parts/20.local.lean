/-! LOCAL PICTURES: a list L of cells that are known one by one, beside what K says; the judgement gLj -/
abbrev gLL : Type := List (Nat × gTag × va_E)
def gL (M : gM) (L : gLL) : Prop := ∀ x ∈ L, M x.1 = some x.2
theorem gL.at {M : gM} {L : gLL} (h : gL M L) {i : Nat} {x : Nat × gTag × va_E} (hi : L[i]? = some x) : M x.1 = some x.2 := h x (List.mem_of_getElem? hi)
/-- tags are apart -/
def gDp (L : gLL) : Prop := ∀ (i j : Nat) (x y : Nat × gTag × va_E), L[i]? = some x → L[j]? = some y → i ≠ j → x.2.1 ≠ y.2.1
def gDb1 (t : Nat) : gLL → Bool
  | [] => true
  | x :: l => cond (Nat.beq t x.2.1.1) false (gDb1 t l)
def gDb : gLL → Bool
  | [] => true
  | x :: l => cond (gDb1 x.2.1.1 l) (gDb l) false
theorem gDb1_s {t : Nat} : ∀ {l : gLL}, gDb1 t l = true → ∀ y ∈ l, t ≠ y.2.1.1
  | [], _, y, hy => by cases hy
  | x :: l, h, y, hy => by
    rw [gDb1] at h
    cases hb : Nat.beq t x.2.1.1 with
    | true => rw [hb] at h; cases h
    | false =>
      rw [hb] at h
      rcases List.mem_cons.mp hy with rfl | hy
      · intro e; rw [e] at hb; simp at hb
      · exact gDb1_s h y hy
theorem gDb_s : ∀ {l : gLL}, gDb l = true → gDp l
  | [], _ => by intro i j x y hi; simp at hi
  | z :: l, h => by
    rw [gDb] at h
    cases hb : gDb1 z.2.1.1 l with
    | false => rw [hb] at h; cases h
    | true =>
      rw [hb] at h
      have ih := gDb_s h
      intro i j x y hi hj hij e
      cases i with
      | zero =>
        cases j with
        | zero => exact hij rfl
        | succ j =>
          simp at hi hj
          subst hi
          exact gDb1_s hb y (List.mem_of_getElem? hj) (congrArg Prod.fst e)
      | succ i =>
        cases j with
        | zero =>
          simp at hi hj
          subst hj
          exact gDb1_s hb x (List.mem_of_getElem? hi) (congrArg Prod.fst e.symm)
        | succ j => exact ih i j x y (by simpa using hi) (by simpa using hj) (by omega) e
theorem gFr.upT {T : gTag → Prop} {M0 M : gM} {a : Nat} {t : gTag} {e e' : va_E} (hF : gFr T M0 M) (h : M a = some (t, e)) (hT : T t) : gFr T M0 (mU M a t e') := hF.trans (gFr.up h hT)
theorem gL.put {M : gM} {L : gLL} (h : gL M L) (hd : gDp L) {i a : Nat} {t : gTag} {e e' : va_E} (hi : L[i]? = some (a, t, e)) : gL (mU M a t e') (L.set i (a, t, e')) := by
  intro x hx
  obtain ⟨j, hj⟩ := List.getElem?_of_mem hx
  by_cases hji : j = i
  · subst hji
    have hlt : j < L.length := (List.getElem?_eq_some_iff.mp hi).1
    rw [List.getElem?_set_self hlt] at hj
    cases hj
    exact mU_s
  · rw [List.getElem?_set_ne (fun z => hji z.symm)] at hj
    have h1 := h.at hj
    have hne : x.1 ≠ a := by
      intro e9
      have h2 := h.at hi
      rw [e9, h2] at h1
      exact hd j i x _ hj hi hji (congrArg Prod.fst (Option.some.inj h1)).symm
    rw [mU_n hne]; exact h1
theorem gL.new {M : gM} {L : gLL} (h : gL M L) {q : Nat} {t : gTag} {e : va_E} (hq : M q = none) : gL (mU M q t e) (L ++ [(q, t, e)]) := by
  intro x hx
  rcases List.mem_append.mp hx with hx | hx
  · have h1 := h x hx
    rw [mU_n (fun e9 => by rw [e9, hq] at h1; cases h1)]; exact h1
  · simp at hx
    subst hx
    exact mU_s
theorem gL.fr {M M' : gM} {L : gLL} {T : gTag → Prop} (h : gL M L) (hF : gFr T M M') (hT : ∀ x ∈ L, ¬ T x.2.1) : gL M' L := fun x hx => hF x.1 x.2.1 x.2.2 (h x hx) (hT x hx)
theorem gL.sub {M : gM} {L L' : gLL} (h : gL M L) (ps : List Nat) (hs : ps.filterMap (fun i => L[i]?) = L') : gL M L' := by
  subst hs
  intro x hx
  obtain ⟨i, -, hi⟩ := List.mem_filterMap.mp hx
  exact h.at hi
theorem gL.app {M : gM} {L L' : gLL} (h : gL M L) (h' : gL M L') : gL M (L ++ L') := fun x hx => (List.mem_append.mp hx).elim (h x) (h' x)
section GL
variable {z : gZ} {S : gS} {EV : gEV} {Q : State → Prop} {M0 : gM} {K : gM → Prop} {T : gTag → Prop} {L L' : gLL} {k n pc : Nat} {ls : List (Option Value)} {st rest As : List Value} {mc ms d : Nat} {post : Option Value → gM → Prop} {px : String → gM → Prop}
def gLj (z : gZ) (S : gS) (EV : gEV) (Q : State → Prop) (K : gM → Prop) (T : gTag → Prop) (M0 : gM) (L : gLL) (k n pc : Nat) (ls : List (Option Value)) (st : List Value) : Prop :=
  ∀ M : gM, K M → gL M L → gFr T M0 M → gG z S EV Q M k n pc ls st
/-- K outlives changes at T -/
def gKT (K : gM → Prop) (T : gTag → Prop) : Prop := ∀ M M' : gM, gFr T M M' → K M → K M'
theorem l_run (X : CX z S EV) (j : Nat) {pc1 : Nat} {ls1 : List (Option Value)} {st1 : List Value} (h : gRun S.2.2.1 S.2.2.2.2.1 j pc ls st = some (pc1, ls1, st1)) (kk : gLj z S EV Q K T M0 L k n pc1 ls1 st1) : gLj z S EV Q K T M0 L k n pc ls st :=
  fun M h1 h2 h3 => g_run X j h (kk M h1 h2 h3)
theorem l_eq {ls' : List (Option Value)} {st' : List Value} (h1 : ls = ls') (h2 : st = st') (kk : gLj z S EV Q K T M0 L k n pc ls' st') : gLj z S EV Q K T M0 L k n pc ls st := by
  subst h1; subst h2; exact kk
theorem l_L (h1 : L = L') (kk : gLj z S EV Q K T M0 L' k n pc ls st) : gLj z S EV Q K T M0 L k n pc ls st := by
  subst h1; exact kk
theorem l_wide {k' n' : Nat} (h1 : k ≤ k') (h2 : n ≤ n') (kk : gLj z S EV Q K T M0 L k' n' pc ls st) : gLj z S EV Q K T M0 L k n pc ls st :=
  fun M a b c => g_wide h1 h2 (kk M a b c)
theorem l_br (X : CX z S EV) {cs : Prop × Prop} {pc1 : Nat} {st1 : List Value} (h : gBrS S.2.2.2.2.1 pc st = some (cs, pc1, st1)) (kt : cs.1 → gLj z S EV Q K T M0 L k n pc1 ls st1) (kf : cs.2 → gLj z S EV Q K T M0 L k n (pc + 3) ls st1) : gLj z S EV Q K T M0 L k n pc ls st :=
  fun M h1 h2 h3 => g_br X h (fun c => kt c M h1 h2 h3) (fun c => kf c M h1 h2 h3)
theorem l_get (X : CX z S EV) (i : Nat) {idx ci j kind a : Nat} {ty : FieldType} {t : gTag} {fs : List Value} {v : Value} (hT : S.2.2.2.2.1 pc = some (.getfield idx, 3)) (F : gFld S.2.1 idx ci j ty kind) (hL : L[i]? = some (a, t, .inr (ci, fs))) (hv : fs[j]? = some v)
    (kk : gLj z S EV Q K T M0 L k n (pc + 3) ls (v :: st)) : gLj z S EV Q K T M0 L k n pc ls (.ref a :: st) :=
  fun M h1 h2 h3 => g_get X hT F (h2.at hL) hv (kk M h1 h2 h3)
theorem l_put (X : CX z S EV) (hK : gKT K T) (i : Nat) {idx ci j a : Nat} {ty : FieldType} {t : gTag} {fs : List Value} {v : Value} (hT : S.2.2.2.2.1 pc = some (.putfield idx, 3)) (F : gFld S.2.1 idx ci j ty 0) (hL : L[i]? = some (a, t, .inr (ci, fs))) (hd : gDp L) (hTt : T t) (hn : narrow ty v = v) (hf : fits ty v = true) (hj : j < fs.length) (hL' : L.set i (a, t, .inr (ci, fs.set j v)) = L')
    (kk : gLj z S EV Q K T M0 L' k n (pc + 3) ls st) : gLj z S EV Q K T M0 L k n pc ls (v :: .ref a :: st) := by
  intro M h1 h2 h3
  subst hL'
  exact g_put X hT F (h2.at hL) hn hf hj rfl (kk _ (hK _ _ (gFr.up (h2.at hL) hTt) h1) (h2.put hd hL) (h3.upT (h2.at hL) hTt))
theorem l_putF (X : CX z S EV) (hK : gKT K T) (i : Nat) {idx ci j a : Nat} {ty : FieldType} {t : gTag} {fs : List Value} {v : Value} (hT : S.2.2.2.2.1 pc = some (.putfield idx, 3)) (hin : S.2.2.2.2.2 = "<init>") (F : gFld S.2.1 idx ci j ty 1) (hL : L[i]? = some (a, t, .inr (ci, fs))) (hd : gDp L) (hTt : T t) (hn : narrow ty v = v) (hf : fits ty v = true) (hj : j < fs.length) (hL' : L.set i (a, t, .inr (ci, fs.set j v)) = L')
    (kk : gLj z S EV Q K T M0 L' k n (pc + 3) ls st) : gLj z S EV Q K T M0 L k n pc ls (v :: .ref a :: st) := by
  intro M h1 h2 h3
  subst hL'
  exact g_putF X hT hin F (h2.at hL) hn hf hj rfl (kk _ (hK _ _ (gFr.up (h2.at hL) hTt) h1) (h2.put hd hL) (h3.upT (h2.at hL) hTt))
theorem l_new (X : CX z S EV) (hK : gKT K T) (t : gTag) {idx ci N : Nat} {fs : List Value} (hT : S.2.2.2.2.1 pc = some (.new idx, 3)) (F : gNew S.2.1 idx ci N fs) (hc : k + 1 ≤ z.2.2.2.1.cells) (hs : n + N ≤ z.2.2.2.1.slots)
    (kk : ∀ q : Nat, gLj z S EV Q K T M0 (L ++ [(q, t, .inr (ci, fs))]) (k + 1) (n + N) (pc + 3) ls (.ref q :: st)) : gLj z S EV Q K T M0 L k n pc ls st :=
  fun _ h1 h2 h3 => g_new X t hT F hc hs (fun q hq => kk q _ (hK _ _ (gFr.new hq) h1) (h2.new hq) (h3.trans (gFr.new hq)))
theorem l_newI (X : CX z S EV) (hK : gKT K T) (t : gTag) {x : Int32} (N : Nat) (hT : S.2.2.2.2.1 pc = some (.newarray .int, 2)) (hx : ¬ x < 0) (hN : x.toNatClampNeg = N) (hby : N ≤ 100000) (hc : k + 1 ≤ z.2.2.2.1.cells) (hs : n + N ≤ z.2.2.2.1.slots)
    (kk : ∀ q : Nat, gLj z S EV Q K T M0 (L ++ [(q, t, .inl (EV.2.1 0, N, .inl (fun _ => 0)))]) (k + 1) (n + N) (pc + 2) ls (.ref q :: st)) : gLj z S EV Q K T M0 L k n pc ls (.int x :: st) :=
  fun _ h1 h2 h3 => g_newI X t N hT hx hN hby hc hs (fun q hq => kk q _ (hK _ _ (gFr.new hq) h1) (h2.new hq) (h3.trans (gFr.new hq)))
theorem l_newZ (X : CX z S EV) (hK : gKT K T) (t : gTag) {x : Int32} (N : Nat) (hT : S.2.2.2.2.1 pc = some (.newarray .boolean, 2)) (hx : ¬ x < 0) (hN : x.toNatClampNeg = N) (hby : N ≤ 100000) (hc : k + 1 ≤ z.2.2.2.1.cells) (hs : n + N ≤ z.2.2.2.1.slots)
    (kk : ∀ q : Nat, gLj z S EV Q K T M0 (L ++ [(q, t, .inl (EV.2.1 1, N, .inl (fun _ => 0)))]) (k + 1) (n + N) (pc + 2) ls (.ref q :: st)) : gLj z S EV Q K T M0 L k n pc ls (.int x :: st) :=
  fun _ h1 h2 h3 => g_newZ X t N hT hx hN hby hc hs (fun q hq => kk q _ (hK _ _ (gFr.new hq) h1) (h2.new hq) (h3.trans (gFr.new hq)))
theorem l_newq (X : CX z S EV) (hK : gKT K T) (t : gTag) (i : Nat) {idx : Nat} {C : String} {x : Int32} {N : Nat} (hT : S.2.2.2.2.1 pc = some (.anewarray idx, 3)) (hk : Cond.classLink S.2.1 idx C ∈ lw_all) (ho : C ∈ gOver) (hi : (gTys EV.2.1)[i]? = some (EV.2.1 i, .object C))
    (hx : ¬ x < 0) (hN : x.toNatClampNeg = N) (hby : N ≤ 100000) (hc : k + 1 ≤ z.2.2.2.1.cells) (hs : n + N ≤ z.2.2.2.1.slots)
    (kk : ∀ q : Nat, gLj z S EV Q K T M0 (L ++ [(q, t, .inl (EV.2.1 i, N, .inr (.inr (.inr (.inr (fun _ => none))))))]) (k + 1) (n + N) (pc + 3) ls (.ref q :: st)) : gLj z S EV Q K T M0 L k n pc ls (.int x :: st) :=
  fun _ h1 h2 h3 => g_newq X t i hT hk ho hi hx hN hby hc hs (fun q hq => kk q _ (hK _ _ (gFr.new hq) h1) (h2.new hq) (h3.trans (gFr.new hq)))
theorem l_alen (X : CX z S EV) (j : Nat) (i : Nat) {ty : FieldType} {a : Nat} {t : gTag} {x : vp_A} {v : Int32} (hT : S.2.2.2.2.1 pc = some (.arraylength, 1)) (hi : (gTys EV.2.1)[i]? = some (EV.2.1 i, ty)) (hL : L[j]? = some (a, t, .inl (EV.2.1 i, x))) (hv : Int32.ofNat x.1 = v)
    (kk : gLj z S EV Q K T M0 L k n (pc + 1) ls (.int v :: st)) : gLj z S EV Q K T M0 L k n pc ls (.ref a :: st) :=
  fun M h1 h2 h3 => g_alen X i hT hi (h2.at hL) hv (kk M h1 h2 h3)
theorem l_aald (X : CX z S EV) (j0 : Nat) (i : Nat) {C : String} {a : Nat} {t : gTag} {N j : Nat} {f : Nat → Option Nat} {x : Int32} {v : Value} (hT : S.2.2.2.2.1 pc = some (.aaload, 1)) (hi : (gTys EV.2.1)[i]? = some (EV.2.1 i, .object C)) (hL : L[j0]? = some (a, t, .inl (EV.2.1 i, N, .inr (.inr (.inr (.inr f)))))) (hx : gIx x N j) (hv : va_rf (f j) = v)
    (kk : gLj z S EV Q K T M0 L k n (pc + 1) ls (v :: st)) : gLj z S EV Q K T M0 L k n pc ls (.int x :: .ref a :: st) :=
  fun M h1 h2 h3 => g_aald X i hT hi (h2.at hL) hx hv (kk M h1 h2 h3)
/-- an object that may lie in an array of Object -/
def gOb (M : gM) (v : Nat) : Prop := ∃ (tv : gTag) (ci : Nat) (r : vw_C) (fs : List Value), M v = some (tv, .inr (ci, fs)) ∧ vwCl[ci]? = some r ∧ Cond.castable r.1 "java/lang/Object" ∈ lw_tbl
theorem l_aast (X : CX z S EV) (hK : gKT K T) (j0 : Nat) {a v : Nat} {t : gTag} {N j : Nat} {f : Nat → Option Nat} {x : Int32} (hT : S.2.2.2.2.1 pc = some (.aastore, 1)) (hL : L[j0]? = some (a, t, .inl (EV.2.1 2, N, .inr (.inr (.inr (.inr f)))))) (hv : ∀ M, K M → gL M L → gOb M v) (hd : gDp L) (hTt : T t) (hx : gIx x N j)
    (hL' : L.set j0 (a, t, .inl (EV.2.1 2, N, .inr (.inr (.inr (.inr (va_up f j (some v))))))) = L') (kk : gLj z S EV Q K T M0 L' k n (pc + 1) ls st) : gLj z S EV Q K T M0 L k n pc ls (.ref v :: .int x :: .ref a :: st) := by
  intro M h1 h2 h3
  subst hL'
  obtain ⟨tv, ci, r, fs, m1, m2, m3⟩ := hv M h1 h2
  exact g_aast X 2 ci hT rfl (h2.at hL) m1 m2 (Or.inl m3) hx rfl (kk _ (hK _ _ (gFr.up (h2.at hL) hTt) h1) (h2.put hd hL) (h3.upT (h2.at hL) hTt))
theorem l_oinit (X : CX z S EV) {idx b : Nat} (hT : S.2.2.2.2.1 pc = some (.invokespecial idx, 3)) (hl0 : Cond.methodLink S.2.1 idx objectInit ∈ lw_all) (hf : 1 ≤ z.2.2.2.1.frames ∧ 64 ≤ z.2.2.2.1.locals) (hw : (rest.map fun v => v.category).sum ≤ 8) (kk : gLj z S EV Q K T M0 L k n (pc + 3) ls rest) : gLj z S EV Q K T M0 L k n pc ls (.ref b :: rest) :=
  fun M h1 h2 h3 => g_oinit X hT hl0 hf hw (kk M h1 h2 h3)
def kT : gM → Prop := fun _ => True
theorem gKt : gKT kT T := fun _ _ _ _ => trivial
def tF : gTag → Prop := fun _ => False
def tO (t0 : gTag) : gTag → Prop := fun t => t = t0
/-- answers v, the cells are L' -/
def jP (v : Option Value) (L' : gLL) : Option Value → gLL → Prop := fun w L9 => w = v ∧ L9 = L'
/-- a contract over cells one by one: from L (and K) to an L' with P, changing T -/
def JC (l : Launch) (y : MethodName) (bytes : ByteArray) (maxL : Nat) (ret : Option FieldType) (d mc ms : Nat) (EV : gEV) (K : gM → Prop) (T : gTag → Prop) (As : List Value) (L : gLL) (P : Option Value → gLL → Prop) : Prop :=
  ∀ M : gM, K M → gL M L → GC l y (ws_ y bytes maxL ret) d mc ms EV As M (fun w M' => ∃ L', P w L' ∧ gL M' L' ∧ gFr T M M') gNo
variable {y x : MethodName} {bytes : ByteArray} {maxL nA idx ci d' mc' ms' : Nat} {ret : Option FieldType} {b : Nat} {t : gTag} {fs : List Value} {owner : String}
theorem l_back {T' : gTag → Prop} {Lr : gLL} {M M' : gM} (hK : gKT K T) (hTT : ∀ t, T' t → T t) (h1 : K M) (h3 : gFr T M0 M) (hF : gFr T' M M') (hL' : gL M' L') (hr : gL M' Lr) (kk : gLj z S EV Q K T M0 (L' ++ Lr) k n pc ls st) : gG z S EV Q M' k n pc ls st :=
  kk M' (hK _ _ (hF.mono hTT) h1) (hL'.app hr) (h3.trans (hF.mono hTT))
/-- calls: ps the callee's cells within L, rs the cells that stay -/
theorem l_callV (X : CX z S EV) (hK : gKT K T) {K' : gM → Prop} {T' : gTag → Prop} {Lc Lr : gLL} {P : Option Value → gLL → Prop} (ps rs : List Nat) (i : Nat) (hT : S.2.2.2.2.1 pc = some (.invokevirtual idx, 3)) (LK : gLkV S.2.1 idx ci y bytes maxL ret nA) (hC : JC z.2.1 y bytes maxL ret d' mc' ms' EV K' T' (.ref b :: As) Lc P)
    (hb : L[i]? = some (b, t, .inr (ci, fs))) (hKK : ∀ M, K M → gL M L → K' M) (hps : ps.filterMap (fun i => L[i]?) = Lc) (hrs : rs.filterMap (fun i => L[i]?) = Lr) (hTT : ∀ t, T' t → T t) (hr : ∀ x ∈ Lr, ¬ T' x.2.1)
    (hn : As.length = nA) (hst : st = As.reverse ++ .ref b :: rest) (hw : (rest.map fun v => v.category).sum ≤ 8) (hf : gFit z k n d' mc' ms')
    (kk : ∀ (v : Option Value) (L' : gLL), P v L' → gLj z S EV Q K T M0 (L' ++ Lr) (k + mc') (n + ms') (pc + 3) ls (v.toList ++ rest)) : gLj z S EV Q K T M0 L k n pc ls st :=
  fun M h1 h2 h3 => g_callV X hT LK (hC M (hKK M h1 h2) (h2.sub ps hps)) (h2.at hb) hn hst hw hf (fun _ _ h => h.elim) (fun v M' ⟨L', hP, hL', hF⟩ => l_back hK hTT h1 h3 hF hL' ((h2.sub rs hrs).fr hF hr) (kk v L' hP))
theorem l_callU (X : CX z S EV) (hK : gKT K T) {K' : gM → Prop} {T' : gTag → Prop} {Lc Lr : gLL} {P : Option Value → gLL → Prop} (ps rs : List Nat) (i : Nat) (hT : S.2.2.2.2.1 pc = some (.invokevirtual idx, 3)) (LK : gLkU S.2.1 idx ci owner x y bytes maxL ret nA) (hC : JC z.2.1 y bytes maxL ret d' mc' ms' EV K' T' (.ref b :: As) Lc P)
    (hb : L[i]? = some (b, t, .inr (ci, fs))) (hKK : ∀ M, K M → gL M L → K' M) (hps : ps.filterMap (fun i => L[i]?) = Lc) (hrs : rs.filterMap (fun i => L[i]?) = Lr) (hTT : ∀ t, T' t → T t) (hr : ∀ x ∈ Lr, ¬ T' x.2.1)
    (hn : As.length = nA) (hst : st = As.reverse ++ .ref b :: rest) (hw : (rest.map fun v => v.category).sum ≤ 8) (hf : gFit z k n d' mc' ms')
    (kk : ∀ (v : Option Value) (L' : gLL), P v L' → gLj z S EV Q K T M0 (L' ++ Lr) (k + mc') (n + ms') (pc + 3) ls (v.toList ++ rest)) : gLj z S EV Q K T M0 L k n pc ls st :=
  fun M h1 h2 h3 => g_callU X hT LK (hC M (hKK M h1 h2) (h2.sub ps hps)) (h2.at hb) hn hst hw hf (fun _ _ h => h.elim) (fun v M' ⟨L', hP, hL', hF⟩ => l_back hK hTT h1 h3 hF hL' ((h2.sub rs hrs).fr hF hr) (kk v L' hP))
theorem l_callS (X : CX z S EV) (hK : gKT K T) {K' : gM → Prop} {T' : gTag → Prop} {Lc Lr : gLL} {P : Option Value → gLL → Prop} (ps rs : List Nat) (hT : S.2.2.2.2.1 pc = some (.invokestatic idx, 3)) (LK : gLkS S.2.1 idx y bytes maxL ret nA) (hC : JC z.2.1 y bytes maxL ret d' mc' ms' EV K' T' As Lc P)
    (hKK : ∀ M, K M → gL M L → K' M) (hps : ps.filterMap (fun i => L[i]?) = Lc) (hrs : rs.filterMap (fun i => L[i]?) = Lr) (hTT : ∀ t, T' t → T t) (hr : ∀ x ∈ Lr, ¬ T' x.2.1)
    (hn : As.length = nA) (hst : st = As.reverse ++ rest) (hw : (rest.map fun v => v.category).sum ≤ 8) (hf : gFit z k n d' mc' ms')
    (kk : ∀ (v : Option Value) (L' : gLL), P v L' → gLj z S EV Q K T M0 (L' ++ Lr) (k + mc') (n + ms') (pc + 3) ls (v.toList ++ rest)) : gLj z S EV Q K T M0 L k n pc ls st :=
  fun M h1 h2 h3 => g_callS X hT LK (hC M (hKK M h1 h2) (h2.sub ps hps)) hn hst hw hf (fun _ _ h => h.elim) (fun v M' ⟨L', hP, hL', hF⟩ => l_back hK hTT h1 h3 hF hL' ((h2.sub rs hrs).fr hF hr) (kk v L' hP))
theorem l_callI (X : CX z S EV) (hK : gKT K T) {K' : gM → Prop} {T' : gTag → Prop} {Lc Lr : gLL} {P : Option Value → gLL → Prop} (ps rs : List Nat) (hT : S.2.2.2.2.1 pc = some (.invokespecial idx, 3)) (LK : gLkI S.2.1 idx y bytes maxL nA) (hC : JC z.2.1 y bytes maxL none d' mc' ms' EV K' T' (.ref b :: As) Lc P)
    (hKK : ∀ M, K M → gL M L → K' M) (hps : ps.filterMap (fun i => L[i]?) = Lc) (hrs : rs.filterMap (fun i => L[i]?) = Lr) (hTT : ∀ t, T' t → T t) (hr : ∀ x ∈ Lr, ¬ T' x.2.1)
    (hn : As.length = nA) (hst : st = As.reverse ++ .ref b :: rest) (hw : (rest.map fun v => v.category).sum ≤ 8) (hf : gFit z k n d' mc' ms')
    (kk : ∀ (v : Option Value) (L' : gLL), P v L' → gLj z S EV Q K T M0 (L' ++ Lr) (k + mc') (n + ms') (pc + 3) ls (v.toList ++ rest)) : gLj z S EV Q K T M0 L k n pc ls st :=
  fun M h1 h2 h3 => g_callI X hT LK (hC M (hKK M h1 h2) (h2.sub ps hps)) hn hst hw hf (fun _ _ h => h.elim) (fun v M' ⟨L', hP, hL', hF⟩ => l_back hK hTT h1 h3 hF hL' ((h2.sub rs hrs).fr hF hr) (kk v L' hP))
variable {P : Option Value → gLL → Prop}
def gLe (z : gZ) (EV : gEV) (P : Option Value → gLL → Prop) (T : gTag → Prop) (M0 : gM) (mc ms : Nat) : State → Prop := gEnd z EV (fun w M' => ∃ L', P w L' ∧ gL M' L' ∧ gFr T M0 M') gNo mc ms
theorem l_iret (X : CX z S EV) {v : Int32} (hQ : Q = gLe z EV P T M0 mc ms) (hT : S.2.2.2.2.1 pc = some (.ireturn, 1)) (hr : S.2.2.2.1 = some .int) (hk : k ≤ mc) (hn : n ≤ ms) (hp : P (some (.int v)) L) : gLj z S EV Q K T M0 L k n pc ls [.int v] :=
  fun M _ h2 h3 => g_iret X hQ hT hr hk hn ⟨L, hp, h2, h3⟩
theorem l_zret (X : CX z S EV) {v : Int32} (hQ : Q = gLe z EV P T M0 mc ms) (hT : S.2.2.2.2.1 pc = some (.ireturn, 1)) (hr : S.2.2.2.1 = some .boolean) (hb : narrow .boolean (.int v) = .int v) (hk : k ≤ mc) (hn : n ≤ ms) (hp : P (some (.int v)) L) : gLj z S EV Q K T M0 L k n pc ls [.int v] :=
  fun M _ h2 h3 => g_zret X hQ hT hr hb hk hn ⟨L, hp, h2, h3⟩
theorem l_aret (X : CX z S EV) {v : Value} {rt : FieldType} (hQ : Q = gLe z EV P T M0 mc ms) (hT : S.2.2.2.2.1 pc = some (.areturn, 1)) (hr : S.2.2.2.1 = some rt) (hrt : (∃ n, rt = .object n) ∨ ∃ t, rt = .array t) (hv : v = .null ∨ ∃ a, v = .ref a) (hk : k ≤ mc) (hn : n ≤ ms) (hp : P (some v) L) : gLj z S EV Q K T M0 L k n pc ls [v] :=
  fun M _ h2 h3 => g_aret X hQ hT hr hrt hv hk hn ⟨L, hp, h2, h3⟩
theorem l_vret (X : CX z S EV) (hQ : Q = gLe z EV P T M0 mc ms) (hT : S.2.2.2.2.1 pc = some (.return_, 1)) (hr : S.2.2.2.1 = none) (hk : k ≤ mc) (hn : n ≤ ms) (hp : P none L) : gLj z S EV Q K T M0 L k n pc ls [] :=
  fun M _ h2 h3 => g_vret X hQ hT hr hk hn ⟨L, hp, h2, h3⟩
theorem l_body {l : Launch} {av : List Value} {cc : ByteArray} {nL : Nat} (tb : Nat → Option (Instr × Nat)) (tk : tkAll cc tb) (hy : plainName y.cls = true) (h1 : ∀ v ∈ av, v.category = 1) (h2 : av.length ≤ nL)
    (body : ∀ (M0 : gM) (z : gZ) (Q : State → Prop), CX z (cc, y.cls, nL, ret, tb, y.name) EV → z.2.1 = l → z.2.2.2.1 = gRm d mc ms → Q = gLe z EV P T M0 mc ms → gLj z (cc, y.cls, nL, ret, tb, y.name) EV Q K T M0 L 0 0 0 (gLoc av nL) []) : JC l y cc nL ret d mc ms EV K T av L P :=
  fun M hK hL => g_body tb tk hy h1 h2 (fun z Q X hl hR hQ _ => body M z Q X hl hR hQ M hK hL gFr.rf)
end GL
section GX
variable {z : gZ} {S : gS} {EV : gEV} {Q : State → Prop} {M : gM} {M0 : gM} {K : gM → Prop} {T : gTag → Prop} {L : gLL} {k n pc idx mc ms d : Nat} {ls : List (Option Value)} {st : List Value}
theorem iI_if {p : Prop} [Decidable p] {q : Prop} [Decidable q] (h : p ↔ q) (a b : Int) : (if p then iI a else iI b) = iI (if q then a else b) := by
  by_cases hq : q
  · rw [if_pos hq, if_pos (h.mpr hq)]
  · rw [if_neg hq, if_neg (fun w => hq (h.mp w))]
theorem g_max (X : CX z S EV) {x y : Int} (hT : S.2.2.2.2.1 pc = some (.invokestatic idx, 3)) (hk : Cond.methodLink S.2.1 idx ⟨"java/lang/Math", "max", "(II)I"⟩ ∈ lw_all) (hR : z.2.2.2.1 = gRm (d + 1) mc ms) (hw : (st.map fun v => v.category).sum ≤ 8) (hc : k ≤ mc) (hs : n ≤ ms) (hx : inR x) (hy : inR y)
    (kk : gG z S EV Q M k n (pc + 3) ls (.int (iI (if x < y then y else x)) :: st)) : gG z S EV Q M k n pc ls (.int (iI y) :: .int (iI x) :: st) := by
  intro H locs la hl hP hS
  rw [← iI_if (iI_lt hx hy) y x] at kk
  exact va_mmax X.exec X.code (X.maxL.trans hl.1.1.symm) X.own (X.hts _ hk) (X.hts _ q242) (X.hts _ q59) (X.hts _ q243) (by rw [hR]; show 1 ≤ d + 1; omega) (by rw [hR]; show _ ≤ 64 * (d + 1); omega) (rc hR hc) (rs hR hs) (X.dec hT) (kk H locs la hl hP hS)
theorem g_min (X : CX z S EV) {x y : Int} (hT : S.2.2.2.2.1 pc = some (.invokestatic idx, 3)) (hk : Cond.methodLink S.2.1 idx ⟨"java/lang/Math", "min", "(II)I"⟩ ∈ lw_all) (hR : z.2.2.2.1 = gRm (d + 1) mc ms) (hw : (st.map fun v => v.category).sum ≤ 8) (hc : k ≤ mc) (hs : n ≤ ms) (hx : inR x) (hy : inR y)
    (kk : gG z S EV Q M k n (pc + 3) ls (.int (iI (if y < x then y else x)) :: st)) : gG z S EV Q M k n pc ls (.int (iI y) :: .int (iI x) :: st) := by
  intro H locs la hl hP hS
  rw [← iI_if (iI_lt hy hx) y x] at kk
  exact va_mmin X.exec X.code (X.maxL.trans hl.1.1.symm) X.own (X.hts _ hk) (X.hts _ q301) (X.hts _ q59) (X.hts _ q302) (by rw [hR]; show 1 ≤ d + 1; omega) (by rw [hR]; show _ ≤ 64 * (d + 1); omega) (rc hR hc) (rs hR hs) (X.dec hT) (kk H locs la hl hP hS)
theorem l_max (X : CX z S EV) {x y : Int} (hT : S.2.2.2.2.1 pc = some (.invokestatic idx, 3)) (hk : Cond.methodLink S.2.1 idx ⟨"java/lang/Math", "max", "(II)I"⟩ ∈ lw_all) (hR : z.2.2.2.1 = gRm (d + 1) mc ms) (hw : (st.map fun v => v.category).sum ≤ 8) (hc : k ≤ mc) (hs : n ≤ ms) (hx : inR x) (hy : inR y)
    (kk : gLj z S EV Q K T M0 L k n (pc + 3) ls (.int (iI (if x < y then y else x)) :: st)) : gLj z S EV Q K T M0 L k n pc ls (.int (iI y) :: .int (iI x) :: st) :=
  fun M h1 h2 h3 => g_max X hT hk hR hw hc hs hx hy (kk M h1 h2 h3)
theorem l_min (X : CX z S EV) {x y : Int} (hT : S.2.2.2.2.1 pc = some (.invokestatic idx, 3)) (hk : Cond.methodLink S.2.1 idx ⟨"java/lang/Math", "min", "(II)I"⟩ ∈ lw_all) (hR : z.2.2.2.1 = gRm (d + 1) mc ms) (hw : (st.map fun v => v.category).sum ≤ 8) (hc : k ≤ mc) (hs : n ≤ ms) (hx : inR x) (hy : inR y)
    (kk : gLj z S EV Q K T M0 L k n (pc + 3) ls (.int (iI (if y < x then y else x)) :: st)) : gLj z S EV Q K T M0 L k n pc ls (.int (iI y) :: .int (iI x) :: st) :=
  fun M h1 h2 h3 => g_min X hT hk hR hw hc hs hx hy (kk M h1 h2 h3)
end GX
