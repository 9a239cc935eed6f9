/-! numbers -/
abbrev iI (z : Int) : Int32 := Int32.ofInt z
theorem iI_add (a b : Int) : iI a + iI b = iI (a + b) := (Int32.ofInt_add a b).symm
theorem iI_sub (a b : Int) : iI a - iI b = iI (a - b) := (Int32.ofInt_sub a b).symm
theorem iI_mul (a b : Int) : iI a * iI b = iI (a * b) := (Int32.ofInt_mul a b).symm
theorem iI_neg (a : Int) : -iI a = iI (-a) := (Int32.ofInt_neg a).symm
abbrev inR (z : Int) : Prop := -2147483648 ≤ z ∧ z ≤ 2147483647
theorem iI_t {z : Int} (h : inR z) : (iI z).toInt = z := Int32.toInt_ofInt_of_le (by omega) (by omega)
theorem iI_self (x : Int32) : iI x.toInt = x := Int32.ofInt_toInt x
theorem inR_toInt (x : Int32) : inR x.toInt := ⟨Int32.le_toInt x, by have := Int32.toInt_lt x; omega⟩
theorem iI_lt {a b : Int} (ha : inR a) (hb : inR b) : iI a < iI b ↔ a < b := by rw [Int32.lt_iff_toInt_lt, iI_t ha, iI_t hb]
theorem iI_le {a b : Int} (ha : inR a) (hb : inR b) : iI a ≤ iI b ↔ a ≤ b := by rw [Int32.le_iff_toInt_le, iI_t ha, iI_t hb]
theorem iI_eq {a b : Int} (ha : inR a) (hb : inR b) : iI a = iI b ↔ a = b := by rw [← Int32.toInt_inj, iI_t ha, iI_t hb]
theorem iI_nl {a b : Int} (ha : inR a) (hb : inR b) : ¬ iI a < iI b ↔ b ≤ a := by rw [iI_lt ha hb]; omega
theorem iI_nle {a b : Int} (ha : inR a) (hb : inR b) : ¬ iI a ≤ iI b ↔ b < a := by rw [iI_le ha hb]; omega
theorem iI_ne {a b : Int} (ha : inR a) (hb : inR b) : ¬ iI a = iI b ↔ ¬ a = b := by rw [iI_eq ha hb]
theorem iI_ofNat (n : Nat) : Int32.ofNat n = iI n := (Int32.ofInt_eq_ofNat (n := n)).symm
theorem iI_c {z : Int} (h0 : 0 ≤ z) (h : inR z) : (iI z).toNatClampNeg = z.toNat := by
  exact Int32.toNatClampNeg_ofInt_of_le (by omega) (by omega)
theorem gIx_i {z : Int} {N : Nat} (h : 0 ≤ z ∧ z < N) (hN : N ≤ 100000) : gIx (iI z) N z.toNat := by
  have hz : inR z := by omega
  have h0 : iI 0 = (0 : Int32) := rfl
  refine ⟨?_, iI_c h.1 hz⟩
  unfold vp_in
  rw [iI_c h.1 hz, ← h0, iI_lt hz (by omega)]
  omega
/-- a truth as a number -/
def bI (p : Prop) [Decidable p] : Int := if p then 1 else 0
theorem bI_1 {p : Prop} [Decidable p] (h : p) : bI p = 1 := if_pos h
theorem bI_0 {p : Prop} [Decidable p] (h : ¬ p) : bI p = 0 := if_neg h
theorem bI_r (p : Prop) [Decidable p] : inR (bI p) := by unfold bI; split <;> omega
theorem bI_t {p : Prop} [Decidable p] (h : ¬ iI (bI p) = iI 0) : p := by
  by_cases hp : p
  · exact hp
  · rw [bI_0 hp] at h
    exact absurd rfl h
theorem bI_f {p : Prop} [Decidable p] (h : iI (bI p) = iI 0) : ¬ p := by
  intro hp
  rw [bI_1 hp] at h
  exact absurd h (by decide)
theorem gG_eq {z : gZ} {S : gS} {EV : gEV} {Q : State → Prop} {M : gM} {k n pc : Nat} {ls ls' : List (Option Value)} {st st' : List Value} (h1 : ls = ls') (h2 : st = st') (kk : gG z S EV Q M k n pc ls' st') : gG z S EV Q M k n pc ls st := by
  subst h1; subst h2; exact kk
/-- conditions as they stand at a branch -/
theorem cLt {a b : Int} (h : iI a < iI b) (ha : inR a) (hb : inR b) : a < b := (iI_lt ha hb).mp h
theorem cNl {a b : Int} (h : ¬ iI a < iI b) (ha : inR a) (hb : inR b) : b ≤ a := (iI_nl ha hb).mp h
theorem cLe {a b : Int} (h : iI a ≤ iI b) (ha : inR a) (hb : inR b) : a ≤ b := (iI_le ha hb).mp h
theorem cNe {a b : Int} (h : ¬ iI a ≤ iI b) (ha : inR a) (hb : inR b) : b < a := (iI_nle ha hb).mp h
theorem cEq {a b : Int} (h : iI a = iI b) (ha : inR a) (hb : inR b) : a = b := (iI_eq ha hb).mp h
theorem cNq {a b : Int} (h : ¬ iI a = iI b) (ha : inR a) (hb : inR b) : ¬ a = b := (iI_ne ha hb).mp h
/-! THE REFERENCE (TrunkYardsModel): its fields as one function of field and place -/
abbrev gV : Type := Nat → Nat → Int
def vS (V : gV) (k i : Nat) (x : Int) : gV := fun a b => if a = k ∧ b = i then x else V a b
theorem vS_s {V : gV} {k i : Nat} {x : Int} : vS V k i x k i = x := by simp [vS]
theorem vS_k {V : gV} {k i a b : Nat} {x : Int} (h : a ≠ k) : vS V k i x a b = V a b := by simp [vS, h]
theorem vS_i {V : gV} {k i a b : Nat} {x : Int} (h : b ≠ i) : vS V k i x a b = V a b := by simp [vS, h]
/-- lengths of the arrays, and their classes -/
def mLen : Nat → Nat
  | 3 => 30 | 4 => 30 | 5 => 30 | 6 => 15 | 7 => 90 | 8 => 4 | 9 => 6 | 10 => 3 | 13 => 60 | 14 => 60 | 15 => 60 | 16 => 60 | 18 => 40 | 19 => 40 | 20 => 40 | 21 => 40 | 22 => 40 | 23 => 40 | 24 => 1200 | 26 => 40 | 27 => 40 | 28 => 40 | 29 => 240
  | _ => 0
def mCls : Nat → Nat
  | 15 => 1 | 27 => 1
  | _ => 0
def mFs (ad : Nat → Nat) (V : gV) : List Value := [.int (iI (V 0 0)), .int (iI (V 1 0)), .int (iI (V 2 0)), .ref (ad 3), .ref (ad 4), .ref (ad 5), .ref (ad 6), .ref (ad 7), .ref (ad 8), .ref (ad 9), .ref (ad 10), .int (iI (V 11 0)), .int (iI (V 12 0)), .ref (ad 13), .ref (ad 14), .ref (ad 15), .ref (ad 16), .int (iI (V 17 0)), .ref (ad 18), .ref (ad 19), .ref (ad 20), .ref (ad 21), .ref (ad 22), .ref (ad 23), .ref (ad 24), .int (iI (V 25 0)), .ref (ad 26), .ref (ad 27), .ref (ad 28), .ref (ad 29)]
/-- the reference object at am, its arrays at ad -/
def MD (EV : gEV) (M : gM) (am : Nat) (ad : Nat → Nat) (V : gV) : Prop := M am = some ((9, 0), .inr (21, mFs ad V)) ∧ ∀ k : Nat, 0 < mLen k → M (ad k) = some ((9, k), .inl (EV.2.1 (mCls k), mLen k, .inl (fun j => iI (V k j))))
def t9 : gTag → Prop := fun t => t.1 = 9
theorem mLen_pos {k : Nat} (h : 0 < mLen k) : k ≠ 0 := by rintro rfl; exact absurd h (by decide)
theorem MD.fr {EV : gEV} {M M' : gM} {am : Nat} {ad : Nat → Nat} {V : gV} (h : MD EV M am ad V) {T : gTag → Prop} (hF : gFr T M M') (hT : ∀ t, T t → t.1 ≠ 9) : MD EV M' am ad V :=
  ⟨hF _ _ _ h.1 (fun z => hT _ z rfl), fun k hk => hF _ _ _ (h.2 k hk) (fun z => hT _ z rfl)⟩
theorem MD.put {EV : gEV} {M : gM} {am : Nat} {ad : Nat → Nat} {V V' : gV} (h : MD EV M am ad V) (hs : ∀ k : Nat, 0 < mLen k → V' k = V k) : MD EV (mU M am (9, 0) (.inr (21, mFs ad V'))) am ad V' := by
  refine ⟨mU_s, fun k hk => ?_⟩
  rw [mU_n (fun e => by have h9 := h.2 k hk; rw [e, h.1] at h9; cases h9), h.2 k hk, hs k hk]
theorem MD.set {EV : gEV} {M : gM} {am : Nat} {ad : Nat → Nat} {V : gV} (h : MD EV M am ad V) {k i : Nat} {x : Int} (hk : 0 < mLen k) : MD EV (mU M (ad k) (9, k) (.inl (EV.2.1 (mCls k), mLen k, .inl (upd (fun j => iI (V k j)) i (iI x))))) am ad (vS V k i x) := by
  refine ⟨?_, fun q hq => ?_⟩
  · rw [mU_n (fun e => by have := h.2 k hk; rw [← e, h.1] at this; cases this), h.1]
    have e : mFs ad (vS V k i x) = mFs ad V := by
      have n0 : ∀ a, mLen a = 0 → vS V k i x a 0 = V a 0 := fun a ha => vS_k (fun z => by rw [z] at ha; omega)
      simp only [mFs, n0 0 rfl, n0 1 rfl, n0 2 rfl, n0 11 rfl, n0 12 rfl, n0 17 rfl, n0 25 rfl]
    rw [e]
  · by_cases hqk : q = k
    · subst hqk
      rw [mU_s]
      have e9 : upd (fun j => iI (V q j)) i (iI x) = fun j => iI (vS V q i x q j) := by
        funext j
        by_cases hj : j = i
        · subst hj; simp [upd, vS]
        · simp [upd, vS, hj]
      rw [e9]
    · rw [mU_n (fun e => hqk (by have h1 := h.2 q hq; rw [e, h.2 k hk] at h1; have := congrArg Prod.fst (Option.some.inj h1); exact (congrArg Prod.snd this).symm)), h.2 q hq]
      have : (fun j => iI (vS V k i x q j)) = fun j => iI (V q j) := funext fun j => by rw [vS_k hqk]
      rw [this]
theorem mSet0 {ad : Nat → Nat} {V : gV} {v : Int} : (mFs ad V).set 0 (.int (iI v)) = mFs ad (vS V 0 0 v) := by simp [mFs, vS]
theorem mSet1 {ad : Nat → Nat} {V : gV} {v : Int} : (mFs ad V).set 1 (.int (iI v)) = mFs ad (vS V 1 0 v) := by simp [mFs, vS]
theorem mSet2 {ad : Nat → Nat} {V : gV} {v : Int} : (mFs ad V).set 2 (.int (iI v)) = mFs ad (vS V 2 0 v) := by simp [mFs, vS]
theorem mSet11 {ad : Nat → Nat} {V : gV} {v : Int} : (mFs ad V).set 11 (.int (iI v)) = mFs ad (vS V 11 0 v) := by simp [mFs, vS]
theorem mSet12 {ad : Nat → Nat} {V : gV} {v : Int} : (mFs ad V).set 12 (.int (iI v)) = mFs ad (vS V 12 0 v) := by simp [mFs, vS]
theorem mSet17 {ad : Nat → Nat} {V : gV} {v : Int} : (mFs ad V).set 17 (.int (iI v)) = mFs ad (vS V 17 0 v) := by simp [mFs, vS]
theorem mSet25 {ad : Nat → Nat} {V : gV} {v : Int} : (mFs ad V).set 25 (.int (iI v)) = mFs ad (vS V 25 0 v) := by simp [mFs, vS]
section MD
variable {z : gZ} {S : gS} {EV : gEV} {Q : State → Prop} {M0 : gM} {am : Nat} {ad : Nat → Nat} {V V' : gV} {pc : Nat} {ls : List (Option Value)} {st : List Value}
/-- the judgement in a method of the reference: the picture is known by V alone -/
def gMd (z : gZ) (S : gS) (EV : gEV) (Q : State → Prop) (M0 : gM) (am : Nat) (ad : Nat → Nat) (V : gV) (pc : Nat) (ls : List (Option Value)) (st : List Value) : Prop :=
  ∀ M : gM, MD EV M am ad V → gFr t9 M0 M → gG z S EV Q M 0 0 pc ls st
theorem gm_run (X : CX z S EV) (j : Nat) {pc1 : Nat} {ls1 : List (Option Value)} {st1 : List Value} (h : gRun S.2.2.1 S.2.2.2.2.1 j pc ls st = some (pc1, ls1, st1)) (kk : gMd z S EV Q M0 am ad V pc1 ls1 st1) : gMd z S EV Q M0 am ad V pc ls st :=
  fun M hM hF => g_run X j h (kk M hM hF)
theorem gm_eq {ls' : List (Option Value)} {st' : List Value} (h1 : ls = ls') (h2 : st = st') (kk : gMd z S EV Q M0 am ad V pc ls' st') : gMd z S EV Q M0 am ad V pc ls st := by
  subst h1; subst h2; exact kk
theorem gm_br (X : CX z S EV) {cs : Prop × Prop} {pc1 : Nat} {st1 : List Value} (h : gBrS S.2.2.2.2.1 pc st = some (cs, pc1, st1)) (kt : cs.1 → gMd z S EV Q M0 am ad V pc1 ls st1) (kf : cs.2 → gMd z S EV Q M0 am ad V (pc + 3) ls st1) : gMd z S EV Q M0 am ad V pc ls st :=
  fun M hM hF => g_br X h (fun c => kt c M hM hF) (fun c => kf c M hM hF)
theorem gm_get (X : CX z S EV) {idx j kind : Nat} {ty : FieldType} {v : Value} (hT : S.2.2.2.2.1 pc = some (.getfield idx, 3)) (F : gFld S.2.1 idx 21 j ty kind) (hv : (mFs ad V)[j]? = some v) (kk : gMd z S EV Q M0 am ad V (pc + 3) ls (v :: st)) : gMd z S EV Q M0 am ad V pc ls (.ref am :: st) :=
  fun M hM hF => g_get X hT F hM.1 hv (kk M hM hF)
theorem gm_ald (X : CX z S EV) (k : Nat) {x v : Int} (hT : S.2.2.2.2.1 pc = some (.iaload, 1)) (hc : mCls k = 0) (hk : 0 < mLen k) (hx : 0 ≤ x ∧ x < (mLen k : Nat)) (hv : V k x.toNat = v) (kk : gMd z S EV Q M0 am ad V (pc + 1) ls (.int (iI v) :: st)) : gMd z S EV Q M0 am ad V pc ls (.int (iI x) :: .ref (ad k) :: st) := by
  intro M hM hF
  have h := hM.2 k hk
  rw [hc] at h
  exact g_iald X hT h (gIx_i hx (by unfold mLen; split <;> omega)) (by rw [← hv]) (kk M hM hF)
theorem gm_zald (X : CX z S EV) (k : Nat) {x v : Int} (hT : S.2.2.2.2.1 pc = some (.baload, 1)) (hc : mCls k = 1) (hk : 0 < mLen k) (hx : 0 ≤ x ∧ x < (mLen k : Nat)) (hv : V k x.toNat = v) (kk : gMd z S EV Q M0 am ad V (pc + 1) ls (.int (iI v) :: st)) : gMd z S EV Q M0 am ad V pc ls (.int (iI x) :: .ref (ad k) :: st) := by
  intro M hM hF
  have h := hM.2 k hk
  rw [hc] at h
  exact g_zald X hT h (gIx_i hx (by unfold mLen; split <;> omega)) (by rw [← hv]) (kk M hM hF)
theorem gm_ast (X : CX z S EV) (k : Nat) {x v : Int} (hT : S.2.2.2.2.1 pc = some (.iastore, 1)) (hc : mCls k = 0) (hk : 0 < mLen k) (hx : 0 ≤ x ∧ x < (mLen k : Nat)) (kk : gMd z S EV Q M0 am ad (vS V k x.toNat v) (pc + 1) ls st) : gMd z S EV Q M0 am ad V pc ls (.int (iI v) :: .int (iI x) :: .ref (ad k) :: st) := by
  intro M hM hF
  have h := hM.2 k hk
  have h' := hM.set (i := x.toNat) (x := v) hk
  rw [hc] at h h'
  exact g_iast X hT h (gIx_i hx (by unfold mLen; split <;> omega)) rfl (kk _ h' (hF.trans (gFr.up h rfl)))
theorem gm_zast (X : CX z S EV) (k : Nat) {x v : Int} (hT : S.2.2.2.2.1 pc = some (.bastore, 1)) (hc : mCls k = 1) (hk : 0 < mLen k) (hx : 0 ≤ x ∧ x < (mLen k : Nat)) (hb : v = 0 ∨ v = 1) (kk : gMd z S EV Q M0 am ad (vS V k x.toNat v) (pc + 1) ls st) : gMd z S EV Q M0 am ad V pc ls (.int (iI v) :: .int (iI x) :: .ref (ad k) :: st) := by
  intro M hM hF
  have h := hM.2 k hk
  have h' := hM.set (i := x.toNat) (x := v) hk
  rw [hc] at h h'
  exact g_zast X hT h (gIx_i hx (by unfold mLen; split <;> omega)) (by rcases hb with rfl | rfl <;> decide) rfl (kk _ h' (hF.trans (gFr.up h rfl)))
theorem gm_put (X : CX z S EV) {idx j : Nat} {v : Int} (hT : S.2.2.2.2.1 pc = some (.putfield idx, 3)) (F : gFld S.2.1 idx 21 j .int 0) (hj : j < 30) (hl : mLen j = 0) (hfs : (mFs ad V).set j (.int (iI v)) = mFs ad (vS V j 0 v)) (kk : gMd z S EV Q M0 am ad (vS V j 0 v) (pc + 3) ls st) : gMd z S EV Q M0 am ad V pc ls (.int (iI v) :: .ref am :: st) := by
  intro M hM hF
  refine g_put X hT F hM.1 rfl rfl hj hfs (kk _ (hM.put (fun k hk => funext fun b => vS_k (fun e => by rw [e] at hk; omega))) (hF.trans (gFr.up hM.1 rfl)))
/-- calls of functions of numbers alone -/
theorem gm_callS (X : CX z S EV) {y : MethodName} {bytes : ByteArray} {maxL nA idx d' : Nat} {ret : Option FieldType} {As rest : List Value} {v : Option Value} (hT : S.2.2.2.2.1 pc = some (.invokestatic idx, 3)) (L : gLkS S.2.1 idx y bytes maxL ret nA)
    (hC : ∀ M, GC z.2.1 y (ws_ y bytes maxL ret) d' 0 0 EV As M (fun w M' => w = v ∧ M' = M) gNo) (hn : As.length = nA) (hst : st = As.reverse ++ rest) (hw : (rest.map fun v => v.category).sum ≤ 8) (hf : gFit z 0 0 d' 0 0)
    (kk : gMd z S EV Q M0 am ad V (pc + 3) ls (v.toList ++ rest)) : gMd z S EV Q M0 am ad V pc ls st :=
  fun M hM hF => g_callS X hT L (hC M) hn hst hw hf (fun _ _ h => h.elim) (fun w M' h => by obtain ⟨rfl, rfl⟩ := h; exact kk _ hM hF)
/-- a contract of the reference: answers v, from V to V' -/
def MC (l : Launch) (y : MethodName) (bytes : ByteArray) (maxL : Nat) (ret : Option FieldType) (d : Nat) (EV : gEV) (am : Nat) (ad : Nat → Nat) (As : List Value) (V : gV) (v : Option Value) (V' : gV) : Prop :=
  ∀ M : gM, MD EV M am ad V → GC l y (ws_ y bytes maxL ret) d 0 0 EV (.ref am :: As) M (fun w M' => w = v ∧ MD EV M' am ad V' ∧ gFr t9 M M') gNo
theorem gm_callV (X : CX z S EV) {y : MethodName} {bytes : ByteArray} {maxL nA idx d' : Nat} {ret : Option FieldType} {As rest : List Value} {v : Option Value} (hT : S.2.2.2.2.1 pc = some (.invokevirtual idx, 3)) (L : gLkV S.2.1 idx 21 y bytes maxL ret nA)
    (hC : MC z.2.1 y bytes maxL ret d' EV am ad As V v V') (hn : As.length = nA) (hst : st = As.reverse ++ .ref am :: rest) (hw : (rest.map fun v => v.category).sum ≤ 8) (hf : gFit z 0 0 d' 0 0)
    (kk : gMd z S EV Q M0 am ad V' (pc + 3) ls (v.toList ++ rest)) : gMd z S EV Q M0 am ad V pc ls st :=
  fun M hM hF => g_callV X hT L (hC M hM) hM.1 hn hst hw hf (fun _ _ h => h.elim) (fun w M' h => by obtain ⟨rfl, h1, h2⟩ := h; exact kk _ h1 (hF.trans h2))
theorem gm_ret (X : CX z S EV) {v : Option Value} {x : Int} (hQ : Q = gEnd z EV (fun w M' => w = v ∧ MD EV M' am ad V' ∧ gFr t9 M0 M') gNo 0 0) (hT : S.2.2.2.2.1 pc = some (.ireturn, 1)) (hr : S.2.2.2.1 = some .int) (hv : some (.int (iI x)) = v) (hV : V = V') : gMd z S EV Q M0 am ad V pc ls [.int (iI x)] :=
  fun M hM hF => g_iret X hQ hT hr (Nat.le_refl _) (Nat.le_refl _) ⟨hv, hV ▸ hM, hF⟩
theorem gm_zret (X : CX z S EV) {v : Option Value} {x : Int} (hQ : Q = gEnd z EV (fun w M' => w = v ∧ MD EV M' am ad V' ∧ gFr t9 M0 M') gNo 0 0) (hT : S.2.2.2.2.1 pc = some (.ireturn, 1)) (hr : S.2.2.2.1 = some .boolean) (hb : narrow .boolean (.int (iI x)) = .int (iI x)) (hv : some (.int (iI x)) = v) (hV : V = V') : gMd z S EV Q M0 am ad V pc ls [.int (iI x)] :=
  fun M hM hF => g_zret X hQ hT hr hb (Nat.le_refl _) (Nat.le_refl _) ⟨hv, hV ▸ hM, hF⟩
theorem gm_vret (X : CX z S EV) {v : Option Value} (hQ : Q = gEnd z EV (fun w M' => w = v ∧ MD EV M' am ad V' ∧ gFr t9 M0 M') gNo 0 0) (hT : S.2.2.2.2.1 pc = some (.return_, 1)) (hr : S.2.2.2.1 = none) (hv : none = v) (hV : V = V') : gMd z S EV Q M0 am ad V pc ls [] :=
  fun M hM hF => g_vret X hQ hT hr (Nat.le_refl _) (Nat.le_refl _) ⟨hv, hV ▸ hM, hF⟩
theorem gm_irem (X : CX z S EV) {x y : Int} (hT : S.2.2.2.2.1 pc = some (.irem, 1)) (hx : 0 ≤ x ∧ x ≤ 2147483647) (hy : 0 < y ∧ y ≤ 2147483647) (kk : gMd z S EV Q M0 am ad V (pc + 1) ls (.int (iI (x % y)) :: st)) : gMd z S EV Q M0 am ad V pc ls (.int (iI y) :: .int (iI x) :: st) := by
  intro M hM hF
  obtain ⟨a, rfl⟩ : ∃ a : Nat, x = a := ⟨x.toNat, by omega⟩
  obtain ⟨b, rfl⟩ : ∃ b : Nat, y = b := ⟨y.toNat, by omega⟩
  have hr := pk_rem (a := a) (d := b) (by omega) (by omega) (by omega)
  have e1 : nI a = iI a := iI_ofNat a
  have e2 : nI b = iI b := iI_ofNat b
  have e3 : nI (a % b) = iI ((a : Int) % b) := by rw [show (a : Int) % b = ((a % b : Nat) : Int) from rfl]; exact iI_ofNat _
  rw [e1, e2, e3] at hr
  refine g_irem X (v := 0) hT (fun h => ?_) (by rw [hr]; exact kk M hM hF)
  have := (iI_eq (a := b) (b := 0) (by omega) (by omega)).mp h
  omega
end MD
