/-! LOCAL PICTURES, more rows: casts, constants, copies, what is let go -/
/-- an object that may lie in an array of Object, its tag below 30 -/
def gOz (M : gM) (v : Nat) : Prop := ∃ (tv : gTag) (ci : Nat) (r : vw_C) (fs : List Value), M v = some (tv, .inr (ci, fs)) ∧ vwCl[ci]? = some r ∧ Cond.castable r.1 "java/lang/Object" ∈ lw_tbl ∧ tv.1 < 30
theorem gOz.ob {M : gM} {v : Nat} (h : gOz M v) : gOb M v := by
  obtain ⟨tv, ci, r, fs, h1, h2, h3, -⟩ := h
  exact ⟨tv, ci, r, fs, h1, h2, h3⟩
theorem gOz.fr {M M' : gM} {T : gTag → Prop} {v : Nat} (h : gOz M v) (hF : gFr T M M') (hT : ∀ t, T t → 30 ≤ t.1) : gOz M' v := by
  obtain ⟨tv, ci, r, fs, h1, h2, h3, h4⟩ := h
  exact ⟨tv, ci, r, fs, hF _ _ _ h1 (fun z => by have := hT _ z; omega), h2, h3, h4⟩
/-- the things of a row are objects -/
def kOb (f : Nat → Option Nat) : gM → Prop := fun M => ∀ j y, f j = some y → gOz M y
def kOx (f : Nat → Option Nat) (x : Nat) : gM → Prop := fun M => kOb f M ∧ gOz M x
theorem kOb_T {T : gTag → Prop} {f : Nat → Option Nat} (hT : ∀ t, T t → 30 ≤ t.1) : gKT (kOb f) T := fun _ _ hF h j y e => (h j y e).fr hF hT
theorem kOx_T {T : gTag → Prop} {f : Nat → Option Nat} {x : Nat} (hT : ∀ t, T t → 30 ≤ t.1) : gKT (kOx f x) T := fun _ _ hF h => ⟨fun j y e => (h.1 j y e).fr hF hT, h.2.fr hF hT⟩
section GL
variable {z : gZ} {S : gS} {EV : gEV} {Q : State → Prop} {M0 : gM} {K : gM → Prop} {T : gTag → Prop} {L L' : gLL} {k n pc idx : Nat} {ls : List (Option Value)} {st rest As : List Value} {mc ms d : Nat}
theorem l_sub (ps : List Nat) (hs : ps.filterMap (fun i => L[i]?) = L') (kk : gLj z S EV Q K T M0 L' k n pc ls st) : gLj z S EV Q K T M0 L k n pc ls st :=
  fun M h1 h2 h3 => kk M h1 (h2.sub ps hs) h3
theorem l_ldcI (X : CX z S EV) {v : Int32} (hT : S.2.2.2.2.1 pc = some (.ldc idx, 2)) (hk : Cond.constant S.2.1 idx v ∈ lw_all) (kk : gLj z S EV Q K T M0 L k n (pc + 2) ls (.int v :: st)) : gLj z S EV Q K T M0 L k n pc ls st :=
  fun M h1 h2 h3 H locs la hl hP hS => lv_ldc X.exec X.code X.own (X.hts _ hk) (X.dec hT) (kk M h1 h2 h3 H locs la hl hP hS)
theorem l_ldcF (X : CX z S EV) {v : UInt32} (hT : S.2.2.2.2.1 pc = some (.ldc idx, 2)) (hk : Cond.constantFloat S.2.1 idx v ∈ lw_all) (kk : gLj z S EV Q K T M0 L k n (pc + 2) ls (.float v :: st)) : gLj z S EV Q K T M0 L k n pc ls st :=
  fun M h1 h2 h3 H locs la hl hP hS => lv_ldcf X.exec X.code X.own (X.hts _ hk) (X.dec hT) (kk M h1 h2 h3 H locs la hl hP hS)
theorem l_ldcM (X : CX z S EV) (hT : S.2.2.2.2.1 pc = some (.ldc idx, 2)) (hk : Cond.classLink S.2.1 idx "[Ljava/lang/Object;" ∈ lw_all) (kk : gLj z S EV Q K T M0 L k n (pc + 2) ls (.ref (EV.2.2.2 1) :: st)) : gLj z S EV Q K T M0 L k n pc ls st :=
  fun M h1 h2 h3 => g_ldcM X hT hk (kk M h1 h2 h3)
theorem l_getC (X : CX z S EV) (i : Nat) {a : Nat} {t : gTag} {x : vp_A} (hT : S.2.2.2.2.1 pc = some (.invokevirtual idx, 3)) (hk : Cond.methodLink S.2.1 idx ⟨"java/lang/Object", "getClass", "()Ljava/lang/Class;"⟩ ∈ lw_all) (hd : Cond.declares ⟨"java/lang/Object", "getClass", "()Ljava/lang/Class;"⟩ ∈ lw_tbl)
    (h1 : Cond.selects "[Ljava/lang/Object;" ⟨"java/lang/Object", "getClass", "()Ljava/lang/Class;"⟩ ⟨"java/lang/Object", "getClass", "()Ljava/lang/Class;"⟩ ∈ lw_all) (h2 : Cond.instanceMethod ⟨"java/lang/Object", "getClass", "()Ljava/lang/Class;"⟩ ∈ lw_all) (h3 : Cond.native ⟨"java/lang/Object", "getClass", "()Ljava/lang/Class;"⟩ ∈ lw_all)
    (hL : L[i]? = some (a, t, .inl (EV.2.1 2, x))) (hf : 1 ≤ z.2.2.2.1.frames ∧ 64 ≤ z.2.2.2.1.locals) (hw : (st.map fun v => v.category).sum ≤ 8) (kk : gLj z S EV Q K T M0 L k n (pc + 3) ls (.ref (EV.2.2.2 1) :: st)) : gLj z S EV Q K T M0 L k n pc ls (.ref a :: st) :=
  fun M g1 g2 g3 => g_getC X hT hk hd h1 h2 h3 (g2.at hL) hf hw (kk M g1 g2 g3)
theorem l_acmpE (X : CX z S EV) (rx ry : Option Nat) {off : Int} {tgt : Nat} (hT : S.2.2.2.2.1 pc = some (.if_acmp .eq off, 3)) (ht : (pc : Int) + off = (tgt : Int)) (hst : st = va_rf ry :: va_rf rx :: rest) (kt : rx = ry → gLj z S EV Q K T M0 L k n tgt ls rest) (kf : ¬ rx = ry → gLj z S EV Q K T M0 L k n (pc + 3) ls rest) : gLj z S EV Q K T M0 L k n pc ls st :=
  fun M h1 h2 h3 => g_acmpE X rx ry hT ht hst (fun h => kt h M h1 h2 h3) (fun h => kf h M h1 h2 h3)
theorem l_acmpN (X : CX z S EV) (rx ry : Option Nat) {off : Int} {tgt : Nat} (hT : S.2.2.2.2.1 pc = some (.if_acmp .ne off, 3)) (ht : (pc : Int) + off = (tgt : Int)) (hst : st = va_rf ry :: va_rf rx :: rest) (kt : ¬ rx = ry → gLj z S EV Q K T M0 L k n tgt ls rest) (kf : rx = ry → gLj z S EV Q K T M0 L k n (pc + 3) ls rest) : gLj z S EV Q K T M0 L k n pc ls st :=
  fun M h1 h2 h3 => g_acmpN X rx ry hT ht hst (fun h => kt h M h1 h2 h3) (fun h => kf h M h1 h2 h3)
theorem l_cast (X : CX z S EV) (i : Nat) {ci b : Nat} {nm : String} {t : gTag} {fs : List Value} (hT : S.2.2.2.2.1 pc = some (.checkcast idx, 3)) (C : gCa S.2.1 idx ci nm) (hL : L[i]? = some (b, t, .inr (ci, fs))) (kk : gLj z S EV Q K T M0 L k n (pc + 3) ls (.ref b :: st)) : gLj z S EV Q K T M0 L k n pc ls (.ref b :: st) :=
  fun M h1 h2 h3 => g_cast X hT C (h2.at hL) (kk M h1 h2 h3)
theorem l_instY (X : CX z S EV) (i : Nat) {ci b : Nat} {nm : String} {t : gTag} {fs : List Value} (hT : S.2.2.2.2.1 pc = some (.instanceof idx, 3)) (C : gCa S.2.1 idx ci nm) (hL : L[i]? = some (b, t, .inr (ci, fs))) (kk : gLj z S EV Q K T M0 L k n (pc + 3) ls (.int (Int32.ofInt 1) :: st)) : gLj z S EV Q K T M0 L k n pc ls (.ref b :: st) :=
  fun M h1 h2 h3 => g_instY X hT C (h2.at hL) (kk M h1 h2 h3)
theorem l_instN (X : CX z S EV) (i : Nat) {ci b : Nat} {nm : String} {t : gTag} {fs : List Value} (hT : S.2.2.2.2.1 pc = some (.instanceof idx, 3)) (C : gNa S.2.1 idx ci nm) (hL : L[i]? = some (b, t, .inr (ci, fs))) (kk : gLj z S EV Q K T M0 L k n (pc + 3) ls (.int (Int32.ofInt 0) :: st)) : gLj z S EV Q K T M0 L k n pc ls (.ref b :: st) :=
  fun M h1 h2 h3 => g_instN X hT C (h2.at hL) (kk M h1 h2 h3)
/-- the length of the shared empty array -/
theorem l_alen0 (X : CX z S EV) (hT : S.2.2.2.2.1 pc = some (.arraylength, 1)) (kk : gLj z S EV Q K T M0 L k n (pc + 1) ls (.int (iI 0) :: st)) : gLj z S EV Q K T M0 L k n pc ls (.ref (EV.2.2.2 0) :: st) :=
  fun M h1 h2 h3 H locs la hl hP hS => va_tlen X.exec X.code X.stat.2.2.2.1 hS (v := iI 0) rfl (X.dec hT) (kk M h1 h2 h3 H locs la hl hP hS)
theorem l_ge (i : Nat) {a : Nat} {x : gTag × va_E} (hL : L[i]? = some (a, x)) (kk : EV.2.2.1 ≤ a → gLj z S EV Q K T M0 L k n pc ls st) : gLj z S EV Q K T M0 L k n pc ls st :=
  fun M h1 h2 h3 => g_ge (h2.at hL) (fun h => kk h M h1 h2 h3)
theorem l_copyQ (X : CX z S EV) (hK : gKT K T) (i0 i1 : Nat) {a0 a : Nat} {t0 t : gTag} {n0 n1 : Nat} {f g : Nat → Option Nat} {sp dp len : Int32} (hT : S.2.2.2.2.1 pc = some (.invokestatic idx, 3)) (C : gCp S.2.1 idx) (hL0 : L[i0]? = some (a0, t0, .inl (EV.2.1 2, n0, .inr (.inr (.inr (.inr f)))))) (hL1 : L[i1]? = some (a, t, .inl (EV.2.1 2, n1, .inr (.inr (.inr (.inr g))))))
    (h1 : ¬ sp < 0) (h2 : ¬ dp < 0) (h3 : ¬ len < 0) (h4 : sp.toNatClampNeg + len.toNatClampNeg ≤ n0) (h5 : dp.toNatClampNeg + len.toNatClampNeg ≤ n1) (hel : ∀ M, K M → kOb f M) (hd : gDp L) (hTt : T t) (hfr : 1 ≤ z.2.2.2.1.frames ∧ 64 ≤ z.2.2.2.1.locals) (hw : (st.map fun v => v.category).sum ≤ 8)
    (hL' : L.set i1 (a, t, .inl (EV.2.1 2, n1, .inr (.inr (.inr (.inr (va_cpy f g sp.toNatClampNeg dp.toNatClampNeg len.toNatClampNeg)))))) = L') (kk : gLj z S EV Q K T M0 L' k n (pc + 3) ls st) : gLj z S EV Q K T M0 L k n pc ls (.int len :: .int dp :: .ref a :: .int sp :: .ref a0 :: st) := by
  intro M g1 g2 g3
  subst hL'
  refine g_copyQ X hT C (g2.at hL0) (g2.at hL1) h1 h2 h3 h4 h5 (fun i _ y hy => ?_) rfl hfr hw (kk _ (hK _ _ (gFr.up (g2.at hL1) hTt) g1) (g2.put hd hL1) (g3.upT (g2.at hL1) hTt))
  obtain ⟨tv, ci, r, fs, m1, m2, m3, -⟩ := hel M g1 _ y hy
  exact ⟨tv, ci, r, fs, m1, m2, m3⟩
end GL
