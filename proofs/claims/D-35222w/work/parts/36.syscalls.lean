/-! THE SYSTEM's contracts TC, calls and ends -/
abbrev gR : Type := Option Value → gAd → gV → gLL → Prop
def tP (EV : gEV) (T : gTag → Prop) (M : gM) (R : gR) : Option Value → gM → Prop := fun v M' => ∃ A' U' L', R v A' U' L' ∧ TD EV M' A' U' ∧ gL M' L' ∧ gFr T M M'
def tX (EV : gEV) (T : gTag → Prop) (M : gM) (A : gAd) (U : gV) (RX : String → Prop) : String → gM → Prop := fun E M' => RX E ∧ TD EV M' A U ∧ gFr T M M'
def TC (l : Launch) (y : MethodName) (bytes : ByteArray) (maxL : Nat) (ret : Option FieldType) (d mc ms : Nat) (EV : gEV) (T : gTag → Prop) (As : List Value) (A : gAd) (U : gV) (L : gLL) (R : gR) (RX : String → Prop) : Prop :=
  ∀ M : gM, TD EV M A U → gL M L → GC l y (ws_ y bytes maxL ret) d mc ms EV As M (tP EV T M R) (tX EV T M A U RX)
/-- throws nothing -/
def rNo : String → Prop := fun _ => False
/-- answers v, all as before -/
def rV (v : Option Value) (A : gAd) (U : gV) (L : gLL) : gR := fun w A' U' L' => w = v ∧ A' = A ∧ U' = U ∧ L' = L
section GT
variable {z : gZ} {S : gS} {EV : gEV} {Q : State → Prop} {M0 : gM} {T T' : gTag → Prop} {A A' : gAd} {U U' : gV} {L L' Lc Lr : gLL} {k n pc idx : Nat} {ls : List (Option Value)} {st rest As : List Value} {mc ms d : Nat} {R : gR} {RX : String → Prop}
/-- with something of class E thrown -/
def gTt (z : gZ) (S : gS) (EV : gEV) (Q : State → Prop) (T : gTag → Prop) (M0 : gM) (A : gAd) (U : gV) (k n pc : Nat) (ls : List (Option Value)) (st : List Value) (E : String) : Prop :=
  ∀ M : gM, TD EV M A U → gFr T M0 M → gT z S EV Q M k n pc ls st E
variable {y x : MethodName} {bytes : ByteArray} {maxL nA ci d' mc' ms' : Nat} {ret : Option FieldType} {b : Nat} {t : gTag} {fs : List Value} {owner : String}
theorem t_callS (X : CX z S EV) (ps rs : List Nat) (hT : S.2.2.2.2.1 pc = some (.invokestatic idx, 3)) (LK : gLkS S.2.1 idx y bytes maxL ret nA) (hC : TC z.2.1 y bytes maxL ret d' mc' ms' EV T' As A U Lc R RX)
    (hps : ps.filterMap (fun i => L[i]?) = Lc) (hrs : rs.filterMap (fun i => L[i]?) = Lr) (hTT : ∀ t, T' t → T t) (hr : ∀ x ∈ Lr, ¬ T' x.2.1)
    (hn : As.length = nA) (hst : st = As.reverse ++ rest) (hw : (rest.map fun v => v.category).sum ≤ 8) (hf : gFit z k n d' mc' ms') (kx : ∀ E, RX E → gTt z S EV Q T M0 A U (k + mc') (n + ms') pc ls rest E)
    (kk : ∀ v A' U' L', R v A' U' L' → gTd z S EV Q T M0 A' U' (L' ++ Lr) (k + mc') (n + ms') (pc + 3) ls (v.toList ++ rest)) : gTd z S EV Q T M0 A U L k n pc ls st :=
  fun M h1 h2 h3 => g_callS X hT LK (hC M h1 (h2.sub ps hps)) hn hst hw hf (fun E M' ⟨hE, hD, hF⟩ => kx E hE M' hD (h3.trans (hF.mono hTT))) (fun v M' ⟨A', U', L', hR, hD, hL, hF⟩ => kk v A' U' L' hR M' hD (hL.app ((h2.sub rs hrs).fr hF hr)) (h3.trans (hF.mono hTT)))
theorem t_callV (X : CX z S EV) (ps rs : List Nat) (hT : S.2.2.2.2.1 pc = some (.invokevirtual idx, 3)) (LK : gLkV S.2.1 idx ci y bytes maxL ret nA) (hC : TC z.2.1 y bytes maxL ret d' mc' ms' EV T' (.ref b :: As) A U Lc R RX) (hb : ∀ M, TD EV M A U → gL M L → ∃ t fs, M b = some (t, .inr (ci, fs)))
    (hps : ps.filterMap (fun i => L[i]?) = Lc) (hrs : rs.filterMap (fun i => L[i]?) = Lr) (hTT : ∀ t, T' t → T t) (hr : ∀ x ∈ Lr, ¬ T' x.2.1)
    (hn : As.length = nA) (hst : st = As.reverse ++ .ref b :: rest) (hw : (rest.map fun v => v.category).sum ≤ 8) (hf : gFit z k n d' mc' ms') (kx : ∀ E, RX E → gTt z S EV Q T M0 A U (k + mc') (n + ms') pc ls rest E)
    (kk : ∀ v A' U' L', R v A' U' L' → gTd z S EV Q T M0 A' U' (L' ++ Lr) (k + mc') (n + ms') (pc + 3) ls (v.toList ++ rest)) : gTd z S EV Q T M0 A U L k n pc ls st :=
  fun M h1 h2 h3 => by
    obtain ⟨t, fs, hM⟩ := hb M h1 h2
    exact g_callV X hT LK (hC M h1 (h2.sub ps hps)) hM hn hst hw hf (fun E M' ⟨hE, hD, hF⟩ => kx E hE M' hD (h3.trans (hF.mono hTT))) (fun v M' ⟨A', U', L', hR, hD, hL, hF⟩ => kk v A' U' L' hR M' hD (hL.app ((h2.sub rs hrs).fr hF hr)) (h3.trans (hF.mono hTT)))
theorem t_callU (X : CX z S EV) (ps rs : List Nat) (hT : S.2.2.2.2.1 pc = some (.invokevirtual idx, 3)) (LK : gLkU S.2.1 idx ci owner x y bytes maxL ret nA) (hC : TC z.2.1 y bytes maxL ret d' mc' ms' EV T' (.ref b :: As) A U Lc R RX) (hb : ∀ M, TD EV M A U → gL M L → ∃ t fs, M b = some (t, .inr (ci, fs)))
    (hps : ps.filterMap (fun i => L[i]?) = Lc) (hrs : rs.filterMap (fun i => L[i]?) = Lr) (hTT : ∀ t, T' t → T t) (hr : ∀ x ∈ Lr, ¬ T' x.2.1)
    (hn : As.length = nA) (hst : st = As.reverse ++ .ref b :: rest) (hw : (rest.map fun v => v.category).sum ≤ 8) (hf : gFit z k n d' mc' ms') (kx : ∀ E, RX E → gTt z S EV Q T M0 A U (k + mc') (n + ms') pc ls rest E)
    (kk : ∀ v A' U' L', R v A' U' L' → gTd z S EV Q T M0 A' U' (L' ++ Lr) (k + mc') (n + ms') (pc + 3) ls (v.toList ++ rest)) : gTd z S EV Q T M0 A U L k n pc ls st :=
  fun M h1 h2 h3 => by
    obtain ⟨t, fs, hM⟩ := hb M h1 h2
    exact g_callU X hT LK (hC M h1 (h2.sub ps hps)) hM hn hst hw hf (fun E M' ⟨hE, hD, hF⟩ => kx E hE M' hD (h3.trans (hF.mono hTT))) (fun v M' ⟨A', U', L', hR, hD, hL, hF⟩ => kk v A' U' L' hR M' hD (hL.app ((h2.sub rs hrs).fr hF hr)) (h3.trans (hF.mono hTT)))
theorem t_callF (X : CX z S EV) {count : Nat} (ps rs : List Nat) (hT : S.2.2.2.2.1 pc = some (.invokeinterface idx count, 5)) (LK : gLkF S.2.1 idx ci x y bytes maxL ret nA) (hC : TC z.2.1 y bytes maxL ret d' mc' ms' EV T' (.ref b :: As) A U Lc R RX) (hb : ∀ M, TD EV M A U → gL M L → ∃ t fs, M b = some (t, .inr (ci, fs)))
    (hps : ps.filterMap (fun i => L[i]?) = Lc) (hrs : rs.filterMap (fun i => L[i]?) = Lr) (hTT : ∀ t, T' t → T t) (hr : ∀ x ∈ Lr, ¬ T' x.2.1)
    (hn : As.length = nA) (hst : st = As.reverse ++ .ref b :: rest) (hw : (rest.map fun v => v.category).sum ≤ 8) (hf : gFit z k n d' mc' ms') (kx : ∀ E, RX E → gTt z S EV Q T M0 A U (k + mc') (n + ms') pc ls rest E)
    (kk : ∀ v A' U' L', R v A' U' L' → gTd z S EV Q T M0 A' U' (L' ++ Lr) (k + mc') (n + ms') (pc + 5) ls (v.toList ++ rest)) : gTd z S EV Q T M0 A U L k n pc ls st :=
  fun M h1 h2 h3 => by
    obtain ⟨t, fs, hM⟩ := hb M h1 h2
    exact g_callF X hT LK (hC M h1 (h2.sub ps hps)) hM hn hst hw hf (fun E M' ⟨hE, hD, hF⟩ => kx E hE M' hD (h3.trans (hF.mono hTT))) (fun v M' ⟨A', U', L', hR, hD, hL, hF⟩ => kk v A' U' L' hR M' hD (hL.app ((h2.sub rs hrs).fr hF hr)) (h3.trans (hF.mono hTT)))
theorem t_callI (X : CX z S EV) (ps rs : List Nat) (hT : S.2.2.2.2.1 pc = some (.invokespecial idx, 3)) (LK : gLkI S.2.1 idx y bytes maxL nA) (hC : TC z.2.1 y bytes maxL none d' mc' ms' EV T' (.ref b :: As) A U Lc R RX)
    (hps : ps.filterMap (fun i => L[i]?) = Lc) (hrs : rs.filterMap (fun i => L[i]?) = Lr) (hTT : ∀ t, T' t → T t) (hr : ∀ x ∈ Lr, ¬ T' x.2.1)
    (hn : As.length = nA) (hst : st = As.reverse ++ .ref b :: rest) (hw : (rest.map fun v => v.category).sum ≤ 8) (hf : gFit z k n d' mc' ms') (kx : ∀ E, RX E → gTt z S EV Q T M0 A U (k + mc') (n + ms') pc ls rest E)
    (kk : ∀ v A' U' L', R v A' U' L' → gTd z S EV Q T M0 A' U' (L' ++ Lr) (k + mc') (n + ms') (pc + 3) ls (v.toList ++ rest)) : gTd z S EV Q T M0 A U L k n pc ls st :=
  fun M h1 h2 h3 => g_callI X hT LK (hC M h1 (h2.sub ps hps)) hn hst hw hf (fun E M' ⟨hE, hD, hF⟩ => kx E hE M' hD (h3.trans (hF.mono hTT))) (fun v M' ⟨A', U', L', hR, hD, hL, hF⟩ => kk v A' U' L' hR M' hD (hL.app ((h2.sub rs hrs).fr hF hr)) (h3.trans (hF.mono hTT)))
def gTe (z : gZ) (EV : gEV) (T : gTag → Prop) (M0 : gM) (A0 : gAd) (U0 : gV) (R : gR) (RX : String → Prop) (mc ms : Nat) : State → Prop := gEnd z EV (tP EV T M0 R) (tX EV T M0 A0 U0 RX) mc ms
variable {A0 : gAd} {U0 : gV}
theorem t_iret (X : CX z S EV) {v : Int32} (hQ : Q = gTe z EV T M0 A0 U0 R RX mc ms) (hT : S.2.2.2.2.1 pc = some (.ireturn, 1)) (hr : S.2.2.2.1 = some .int) (hk : k ≤ mc) (hn : n ≤ ms) (hp : R (some (.int v)) A U L) : gTd z S EV Q T M0 A U L k n pc ls [.int v] :=
  fun M h1 h2 h3 => g_iret X hQ hT hr hk hn ⟨A, U, L, hp, h1, h2, h3⟩
theorem t_zret (X : CX z S EV) {v : Int32} (hQ : Q = gTe z EV T M0 A0 U0 R RX mc ms) (hT : S.2.2.2.2.1 pc = some (.ireturn, 1)) (hr : S.2.2.2.1 = some .boolean) (hb : narrow .boolean (.int v) = .int v) (hk : k ≤ mc) (hn : n ≤ ms) (hp : R (some (.int v)) A U L) : gTd z S EV Q T M0 A U L k n pc ls [.int v] :=
  fun M h1 h2 h3 => g_zret X hQ hT hr hb hk hn ⟨A, U, L, hp, h1, h2, h3⟩
theorem t_aret (X : CX z S EV) {v : Value} {rt : FieldType} (hQ : Q = gTe z EV T M0 A0 U0 R RX mc ms) (hT : S.2.2.2.2.1 pc = some (.areturn, 1)) (hr : S.2.2.2.1 = some rt) (hrt : (∃ n, rt = .object n) ∨ ∃ t, rt = .array t) (hv : v = .null ∨ ∃ a, v = .ref a) (hk : k ≤ mc) (hn : n ≤ ms) (hp : R (some v) A U L) : gTd z S EV Q T M0 A U L k n pc ls [v] :=
  fun M h1 h2 h3 => g_aret X hQ hT hr hrt hv hk hn ⟨A, U, L, hp, h1, h2, h3⟩
theorem t_vret (X : CX z S EV) (hQ : Q = gTe z EV T M0 A0 U0 R RX mc ms) (hT : S.2.2.2.2.1 pc = some (.return_, 1)) (hr : S.2.2.2.1 = none) (hk : k ≤ mc) (hn : n ≤ ms) (hp : R none A U L) : gTd z S EV Q T M0 A U L k n pc ls [] :=
  fun M h1 h2 h3 => g_vret X hQ hT hr hk hn ⟨A, U, L, hp, h1, h2, h3⟩
/-- a callee's throw goes on -/
theorem t_out (X : CX z S EV) {E : String} (hQ : Q = gTe z EV T M0 A0 U0 R RX mc ms) (hE : ∀ x ∈ z.2.2.2.2.2.2.2.2.2.exceptionTable.toList, False) (hk : k ≤ mc) (hn : n ≤ ms) (hp : RX E) : gTt z S EV Q T M0 A0 U0 k n pc ls rest E :=
  fun M h1 h3 => g_out X hQ hE hk hn ⟨hp, h1, h3⟩
theorem t_body {l : Launch} {av : List Value} {cc : ByteArray} {nL : Nat} (tb : Nat → Option (Instr × Nat)) (tk : tkAll cc tb) (hy : plainName y.cls = true) (h1 : ∀ v ∈ av, v.category = 1) (h2 : av.length ≤ nL)
    (body : ∀ (M0 : gM) (z : gZ) (Q : State → Prop), CX z (cc, y.cls, nL, ret, tb, y.name) EV → z.2.1 = l → z.2.2.2.1 = gRm d mc ms → Q = gTe z EV T M0 A U R RX mc ms → (∀ x ∈ z.2.2.2.2.2.2.2.2.2.exceptionTable.toList, False) → gTd z (cc, y.cls, nL, ret, tb, y.name) EV Q T M0 A U L 0 0 0 (gLoc av nL) []) : TC l y cc nL ret d mc ms EV T av A U L R RX :=
  fun M hD hL => g_body tb tk hy h1 h2 (fun z Q X hl hR hQ hE => body M z Q X hl hR hQ hE M hD hL gFr.rf)
end GT
