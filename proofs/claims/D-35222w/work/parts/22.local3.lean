/-! LOCAL PICTURES, third part: cells that K knows; rows whose K need outlive the written tag alone -/
section GL
variable {z : gZ} {S : gS} {EV : gEV} {Q : State → Prop} {M0 : gM} {K K2 : gM → Prop} {T : gTag → Prop} {L L' : gLL} {k n pc idx : Nat} {ls : List (Option Value)} {st rest As : List Value} {mc ms d : Nat}
theorem l_K (h : ∀ M, K M → gL M L → K2 M) (kk : gLj z S EV Q K2 T M0 L k n pc ls st) : gLj z S EV Q K T M0 L k n pc ls st :=
  fun M h1 h2 h3 => kk M (h M h1 h2) h2 h3
theorem l_take {x : Nat × gTag × va_E} (h : ∀ M, K M → M x.1 = some x.2) (kk : gLj z S EV Q K T M0 (L ++ [x]) k n pc ls st) : gLj z S EV Q K T M0 L k n pc ls st :=
  fun M h1 h2 h3 => kk M h1 (h2.app (fun y hy => by simp at hy; subst hy; exact h M h1)) h3
theorem l_getK (X : CX z S EV) {ci j kind a : Nat} {ty : FieldType} {t : gTag} {fs : List Value} {v : Value} (hT : S.2.2.2.2.1 pc = some (.getfield idx, 3)) (F : gFld S.2.1 idx ci j ty kind) (hKc : ∀ M, K M → M a = some (t, .inr (ci, fs))) (hv : fs[j]? = some v)
    (kk : gLj z S EV Q K T M0 L k n (pc + 3) ls (v :: st)) : gLj z S EV Q K T M0 L k n pc ls (.ref a :: st) :=
  fun M h1 h2 h3 => g_get X hT F (hKc M h1) hv (kk M h1 h2 h3)
theorem l_putW (X : CX z S EV) (i : Nat) {ci j a : Nat} {ty : FieldType} {t : gTag} (hK : gKT K (tO t)) {fs : List Value} {v : Value} (hT : S.2.2.2.2.1 pc = some (.putfield idx, 3)) (F : gFld S.2.1 idx ci j ty 0) (hL : L[i]? = some (a, t, .inr (ci, fs))) (hd : gDp L) (hTt : T t) (hn : narrow ty v = v) (hf : fits ty v = true) (hj : j < fs.length) (hL' : L.set i (a, t, .inr (ci, fs.set j v)) = L')
    (kk : gLj z S EV Q K T M0 L' k n (pc + 3) ls st) : gLj z S EV Q K T M0 L k n pc ls (v :: .ref a :: st) := by
  intro M h1 h2 h3
  subst hL'
  exact g_put X hT F (h2.at hL) hn hf hj rfl (kk _ (hK _ _ (gFr.up (h2.at hL) rfl) h1) (h2.put hd hL) (h3.upT (h2.at hL) hTt))
theorem l_newW (X : CX z S EV) (t : gTag) (hK : gKT K (tO t)) {ci N : Nat} {fs : List Value} (hT : S.2.2.2.2.1 pc = some (.new idx, 3)) (F : gNew S.2.1 idx ci N fs) (hc : k + 1 ≤ z.2.2.2.1.cells) (hs : n + N ≤ z.2.2.2.1.slots)
    (kk : ∀ q : Nat, gLj z S EV Q K T M0 (L ++ [(q, t, .inr (ci, fs))]) (k + 1) (n + N) (pc + 3) ls (.ref q :: st)) : gLj z S EV Q K T M0 L k n pc ls st :=
  fun _ h1 h2 h3 => g_new X t hT F hc hs (fun q hq => kk q _ (hK _ _ (gFr.new hq) h1) (h2.new hq) (h3.trans (gFr.new hq)))
theorem l_aastW (X : CX z S EV) (j0 : Nat) {a v : Nat} {t : gTag} (hK : gKT K (tO t)) {N j : Nat} {f : Nat → Option Nat} {x : Int32} (hT : S.2.2.2.2.1 pc = some (.aastore, 1)) (hL : L[j0]? = some (a, t, .inl (EV.2.1 2, N, .inr (.inr (.inr (.inr f)))))) (hv : ∀ M, K M → gL M L → gOb M v) (hd : gDp L) (hTt : T t) (hx : gIx x N j)
    (hL' : L.set j0 (a, t, .inl (EV.2.1 2, N, .inr (.inr (.inr (.inr (va_up f j (some v))))))) = L') (kk : gLj z S EV Q K T M0 L' k n (pc + 1) ls st) : gLj z S EV Q K T M0 L k n pc ls (.ref v :: .int x :: .ref a :: st) := by
  intro M h1 h2 h3
  subst hL'
  obtain ⟨tv, ci, r, fs, m1, m2, m3⟩ := hv M h1 h2
  exact g_aast X 2 ci hT rfl (h2.at hL) m1 m2 (Or.inl m3) hx rfl (kk _ (hK _ _ (gFr.up (h2.at hL) rfl) h1) (h2.put hd hL) (h3.upT (h2.at hL) hTt))
variable {y x : MethodName} {bytes : ByteArray} {maxL nA ci d' mc' ms' : Nat} {ret : Option FieldType} {b : Nat} {t : gTag} {fs : List Value} {owner : String}
theorem l_backW {T' : gTag → Prop} {Lr : gLL} {M M' : gM} (hK : gKT K T') (hTT : ∀ t, T' t → T t) (h1 : K M) (h3 : gFr T M0 M) (hF : gFr T' M M') (hL' : gL M' L') (hr : gL M' Lr) (kk : gLj z S EV Q K T M0 (L' ++ Lr) k n pc ls st) : gG z S EV Q M' k n pc ls st :=
  kk M' (hK _ _ hF h1) (hL'.app hr) (h3.trans (hF.mono hTT))
theorem l_callVW (X : CX z S EV) {K' : gM → Prop} {T' : gTag → Prop} (hK : gKT K T') {Lc Lr : gLL} {P : Option Value → gLL → Prop} (ps rs : List Nat) (i : Nat) (hT : S.2.2.2.2.1 pc = some (.invokevirtual idx, 3)) (LK : gLkV S.2.1 idx ci y bytes maxL ret nA) (hC : JC z.2.1 y bytes maxL ret d' mc' ms' EV K' T' (.ref b :: As) Lc P)
    (hb : L[i]? = some (b, t, .inr (ci, fs))) (hKK : ∀ M, K M → gL M L → K' M) (hps : ps.filterMap (fun i => L[i]?) = Lc) (hrs : rs.filterMap (fun i => L[i]?) = Lr) (hTT : ∀ t, T' t → T t) (hr : ∀ x ∈ Lr, ¬ T' x.2.1)
    (hn : As.length = nA) (hst : st = As.reverse ++ .ref b :: rest) (hw : (rest.map fun v => v.category).sum ≤ 8) (hf : gFit z k n d' mc' ms')
    (kk : ∀ (v : Option Value) (L' : gLL), P v L' → gLj z S EV Q K T M0 (L' ++ Lr) (k + mc') (n + ms') (pc + 3) ls (v.toList ++ rest)) : gLj z S EV Q K T M0 L k n pc ls st :=
  fun M h1 h2 h3 => g_callV X hT LK (hC M (hKK M h1 h2) (h2.sub ps hps)) (h2.at hb) hn hst hw hf (fun _ _ h => h.elim) (fun v M' ⟨L', hP, hL', hF⟩ => l_backW hK hTT h1 h3 hF hL' ((h2.sub rs hrs).fr hF hr) (kk v L' hP))
theorem l_callUW (X : CX z S EV) {K' : gM → Prop} {T' : gTag → Prop} (hK : gKT K T') {Lc Lr : gLL} {P : Option Value → gLL → Prop} (ps rs : List Nat) (i : Nat) (hT : S.2.2.2.2.1 pc = some (.invokevirtual idx, 3)) (LK : gLkU S.2.1 idx ci owner x y bytes maxL ret nA) (hC : JC z.2.1 y bytes maxL ret d' mc' ms' EV K' T' (.ref b :: As) Lc P)
    (hb : L[i]? = some (b, t, .inr (ci, fs))) (hKK : ∀ M, K M → gL M L → K' M) (hps : ps.filterMap (fun i => L[i]?) = Lc) (hrs : rs.filterMap (fun i => L[i]?) = Lr) (hTT : ∀ t, T' t → T t) (hr : ∀ x ∈ Lr, ¬ T' x.2.1)
    (hn : As.length = nA) (hst : st = As.reverse ++ .ref b :: rest) (hw : (rest.map fun v => v.category).sum ≤ 8) (hf : gFit z k n d' mc' ms')
    (kk : ∀ (v : Option Value) (L' : gLL), P v L' → gLj z S EV Q K T M0 (L' ++ Lr) (k + mc') (n + ms') (pc + 3) ls (v.toList ++ rest)) : gLj z S EV Q K T M0 L k n pc ls st :=
  fun M h1 h2 h3 => g_callU X hT LK (hC M (hKK M h1 h2) (h2.sub ps hps)) (h2.at hb) hn hst hw hf (fun _ _ h => h.elim) (fun v M' ⟨L', hP, hL', hF⟩ => l_backW hK hTT h1 h3 hF hL' ((h2.sub rs hrs).fr hF hr) (kk v L' hP))
theorem l_callFW (X : CX z S EV) {count : Nat} {K' : gM → Prop} {T' : gTag → Prop} (hK : gKT K T') {Lc Lr : gLL} {P : Option Value → gLL → Prop} (ps rs : List Nat) (i : Nat) (hT : S.2.2.2.2.1 pc = some (.invokeinterface idx count, 5)) (LK : gLkF S.2.1 idx ci x y bytes maxL ret nA) (hC : JC z.2.1 y bytes maxL ret d' mc' ms' EV K' T' (.ref b :: As) Lc P)
    (hb : L[i]? = some (b, t, .inr (ci, fs))) (hKK : ∀ M, K M → gL M L → K' M) (hps : ps.filterMap (fun i => L[i]?) = Lc) (hrs : rs.filterMap (fun i => L[i]?) = Lr) (hTT : ∀ t, T' t → T t) (hr : ∀ x ∈ Lr, ¬ T' x.2.1)
    (hn : As.length = nA) (hst : st = As.reverse ++ .ref b :: rest) (hw : (rest.map fun v => v.category).sum ≤ 8) (hf : gFit z k n d' mc' ms')
    (kk : ∀ (v : Option Value) (L' : gLL), P v L' → gLj z S EV Q K T M0 (L' ++ Lr) (k + mc') (n + ms') (pc + 5) ls (v.toList ++ rest)) : gLj z S EV Q K T M0 L k n pc ls st :=
  fun M h1 h2 h3 => g_callF X hT LK (hC M (hKK M h1 h2) (h2.sub ps hps)) (h2.at hb) hn hst hw hf (fun _ _ h => h.elim) (fun v M' ⟨L', hP, hL', hF⟩ => l_backW hK hTT h1 h3 hF hL' ((h2.sub rs hrs).fr hF hr) (kk v L' hP))
theorem l_callSW (X : CX z S EV) {K' : gM → Prop} {T' : gTag → Prop} (hK : gKT K T') {Lc Lr : gLL} {P : Option Value → gLL → Prop} (ps rs : List Nat) (hT : S.2.2.2.2.1 pc = some (.invokestatic idx, 3)) (LK : gLkS S.2.1 idx y bytes maxL ret nA) (hC : JC z.2.1 y bytes maxL ret d' mc' ms' EV K' T' As Lc P)
    (hKK : ∀ M, K M → gL M L → K' M) (hps : ps.filterMap (fun i => L[i]?) = Lc) (hrs : rs.filterMap (fun i => L[i]?) = Lr) (hTT : ∀ t, T' t → T t) (hr : ∀ x ∈ Lr, ¬ T' x.2.1)
    (hn : As.length = nA) (hst : st = As.reverse ++ rest) (hw : (rest.map fun v => v.category).sum ≤ 8) (hf : gFit z k n d' mc' ms')
    (kk : ∀ (v : Option Value) (L' : gLL), P v L' → gLj z S EV Q K T M0 (L' ++ Lr) (k + mc') (n + ms') (pc + 3) ls (v.toList ++ rest)) : gLj z S EV Q K T M0 L k n pc ls st :=
  fun M h1 h2 h3 => g_callS X hT LK (hC M (hKK M h1 h2) (h2.sub ps hps)) hn hst hw hf (fun _ _ h => h.elim) (fun v M' ⟨L', hP, hL', hF⟩ => l_backW hK hTT h1 h3 hF hL' ((h2.sub rs hrs).fr hF hr) (kk v L' hP))
theorem l_callIW (X : CX z S EV) {K' : gM → Prop} {T' : gTag → Prop} (hK : gKT K T') {Lc Lr : gLL} {P : Option Value → gLL → Prop} (ps rs : List Nat) (hT : S.2.2.2.2.1 pc = some (.invokespecial idx, 3)) (LK : gLkI S.2.1 idx y bytes maxL nA) (hC : JC z.2.1 y bytes maxL none d' mc' ms' EV K' T' (.ref b :: As) Lc P)
    (hKK : ∀ M, K M → gL M L → K' M) (hps : ps.filterMap (fun i => L[i]?) = Lc) (hrs : rs.filterMap (fun i => L[i]?) = Lr) (hTT : ∀ t, T' t → T t) (hr : ∀ x ∈ Lr, ¬ T' x.2.1)
    (hn : As.length = nA) (hst : st = As.reverse ++ .ref b :: rest) (hw : (rest.map fun v => v.category).sum ≤ 8) (hf : gFit z k n d' mc' ms')
    (kk : ∀ (v : Option Value) (L' : gLL), P v L' → gLj z S EV Q K T M0 (L' ++ Lr) (k + mc') (n + ms') (pc + 3) ls (v.toList ++ rest)) : gLj z S EV Q K T M0 L k n pc ls st :=
  fun M h1 h2 h3 => g_callI X hT LK (hC M (hKK M h1 h2) (h2.sub ps hps)) hn hst hw hf (fun _ _ h => h.elim) (fun v M' ⟨L', hP, hL', hF⟩ => l_backW hK hTT h1 h3 hF hL' ((h2.sub rs hrs).fr hF hr) (kk v L' hP))
end GL
/-! nodes of a linked list i: places lo ≤ p < n, at ns p, holding f p -/
def gNx (ns : Nat → Nat) (n p : Nat) : Value := if p + 1 < n then .ref (ns (p + 1)) else .null
def gPv (ns : Nat → Nat) (p : Nat) : Value := if p = 0 then .null else .ref (ns (p - 1))
def gNd (i n p : Nat) (ns f : Nat → Nat) : Nat × gTag × va_E := (ns p, (25, 8 * i + p), .inr (8, [.ref (f p), gNx ns n p, gPv ns p]))
def kNs (i lo hi n : Nat) (ns f : Nat → Nat) : gM → Prop := fun M => ∀ p, lo ≤ p → p < hi → M (gNd i n p ns f).1 = some (gNd i n p ns f).2
theorem kNs_T {i lo hi n : Nat} {ns f : Nat → Nat} {T : gTag → Prop} (hT : ∀ p, lo ≤ p → p < hi → ¬ T (25, 8 * i + p)) : gKT (kNs i lo hi n ns f) T := fun _ _ hF h p h1 h2 => hF _ _ _ (h p h1 h2) (hT p h1 h2)
theorem kNs_sub {i lo hi lo' hi' n : Nat} {ns f : Nat → Nat} {M : gM} (h : kNs i lo hi n ns f M) (h1 : lo ≤ lo') (h2 : hi' ≤ hi) : kNs i lo' hi' n ns f M := fun p g1 g2 => h p (by omega) (by omega)
theorem gNx_0 {ns : Nat → Nat} {n p : Nat} (h : ¬ p + 1 < n) : gNx ns n p = .null := if_neg h
theorem gNx_1 {ns : Nat → Nat} {n p : Nat} (h : p + 1 < n) : gNx ns n p = .ref (ns (p + 1)) := if_pos h
theorem gPv_0 {ns : Nat → Nat} {p : Nat} (h : p = 0) : gPv ns p = .null := if_pos h
theorem gPv_1 {ns : Nat → Nat} {p : Nat} (h : ¬ p = 0) : gPv ns p = .ref (ns (p - 1)) := if_neg h
