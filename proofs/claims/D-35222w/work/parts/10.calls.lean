/-! CONTRACTS, calls, ends, throws -/
def gRm (d mc ms : Nat) : Room := { frames := d, cells := mc, slots := ms, locals := 64 * d }
def gI (EV : gEV) (M : gM) (U : State) : Prop := gE EV U ∧ gP EV M U.heap ∧ EV.2.2.1 ≤ U.heap.size
def gQ (EV : gEV) (post : Option Value → gM → Prop) : Array Value → State → Outcome → State → Prop := fun _ st oc t => (∃ (v : Option Value) (M' : gM), oc = .returned v ∧ post v M' ∧ gP EV M' t.heap) ∧ va_F (gA EV) st t
def gX (EV : gEV) (px : String → gM → Prop) : String → State → State → Prop := fun E st t => (∃ M' : gM, px E M' ∧ gP EV M' t.heap) ∧ va_F (gA EV) st t
/-- a contract: y, called with av in the picture M, returns with post or throws with px; depth d, mc new cells of ms slots -/
def GC (l : Launch) (y : MethodName) (ws : List Cond) (d mc ms : Nat) (EV : gEV) (av : List Value) (M : gM) (post : Option Value → gM → Prop) (px : String → gM → Prop) : Prop :=
  l.stackTraces = false → vx_Met l y ws (gRm d mc ms) (va_Pc av (gI EV M)) (gQ EV post) (gX EV px) mc ms (gA EV)
/-- throws nothing -/
def gNo : String → gM → Prop := fun _ _ => False
/-- answers of a kind -/
def pI (f : Int32 → gM → Prop) : Option Value → gM → Prop := fun v M => ∃ r : Int32, v = some (.int r) ∧ f r M
def pV (f : gM → Prop) : Option Value → gM → Prop := fun v M => v = none ∧ f M
def pR (f : Option Nat → gM → Prop) : Option Value → gM → Prop := fun v M => ∃ r : Option Nat, v = some (va_rf r) ∧ f r M
theorem gI.calling {EV : gEV} {M : gM} {U : State} {g : JFrame} {mk : MethodId} {a : Array Value} (h : gI EV M U) : gI EV M (U.calling g mk a) :=
  ⟨gE.warm (s := U) (U := U.calling g mk a) (State.WarmedH.refl U) (fun _ _ _ => rfl) h.1, h.2.1, h.2.2⟩
theorem gI.blind {EV : gEV} {M : gM} {av : List Value} : FrameBlind (va_Pc av (gI EV M)) := fun _ _ _ _ h => ⟨h.1, h.2.calling⟩
section GR
variable {z : gZ} {S : gS} {EV : gEV} {Q : State → Prop} {M : gM} {k n pc : Nat} {ls : List (Option Value)} {st rest As : List Value} {mc ms d : Nat} {post : Option Value → gM → Prop} {px : String → gM → Prop}
theorem rc (hR : z.2.2.2.1 = gRm d mc ms) {a : Nat} (h : a ≤ mc) : a ≤ z.2.2.2.1.cells := by rw [hR]; exact h
theorem rs (hR : z.2.2.2.1 = gRm d mc ms) {a : Nat} (h : a ≤ ms) : a ≤ z.2.2.2.1.slots := by rw [hR]; exact h
/-- with a thing of class E thrown over the method's frame -/
def gT (z : gZ) (S : gS) (EV : gEV) (Q : State → Prop) (M : gM) (k n : Nat) (pc : Nat) (ls : List (Option Value)) (st : List Value) (E : String) : Prop :=
  ∀ (H : Heap) (locs : List Loc) (la : Array Slot) (ce : Cell) (q : Addr), gLs la S.2.2.1 ls → gP EV M H → va_S (gA EV) z.2.2.2.2.1.heap H locs → H[q]? = some ce → ce.vm = .none → z.2.2.2.2.1.vm.findClass E = some ce.cls →
    vx_W z.1 z.2.1 z.2.2.1 z.2.2.2.1 z.2.2.2.2.1 z.2.2.2.2.2.1 z.2.2.2.2.2.2.1 z.2.2.2.2.2.2.2.1 z.2.2.2.2.2.2.2.2.1 z.2.2.2.2.2.2.2.2.2 H locs k n Q (F0 z.2.2.2.2.2.1 pc la st) q
theorem g_cont {H : Heap} {locs : List Loc} {la : Array Slot} {a : Array Value} {mc' ms' : Nat} (hl : gLs la S.2.2.1 ls) (hS : va_S (gA EV) z.2.2.2.2.1.heap H locs)
    (hr : vx_Run z.1 z.2.1 z.2.2.1 z.2.2.2.1 z.2.2.2.2.1 z.2.2.2.2.2.1 z.2.2.2.2.2.2.1 z.2.2.2.2.2.2.2.1 z.2.2.2.2.2.2.2.2.1 z.2.2.2.2.2.2.2.2.2 H locs k n mc' ms' (F0 z.2.2.2.2.2.1 pc la st) rest (gQ EV post a) (gX EV px) (gA EV))
    (kx : ∀ (E : String) (M' : gM), px E M' → gT z S EV Q M' (k + mc') (n + ms') pc ls rest E) (kk : ∀ (v : Option Value) (M' : gM), post v M' → gG z S EV Q M' (k + mc') (n + ms') (pc + 3) ls (v.toList ++ rest)) : gW z H locs k n Q pc la st := by
  intro T hT X
  rcases hr T hT X with ⟨v, st₀, t, T', L, h0, X', hL, e1, e2, ⟨⟨v', M', hv, hp, hb⟩, hF⟩, stp⟩ | ⟨q, st₀, t, T', L, E, ce, h0, X', hL, e1, e2, ⟨⟨M', hp, hb⟩, hF⟩, hce, hcv, hcl, stp⟩
  · cases hv
    obtain ⟨k1, k2, k3⟩ := vx_keep h0 e1 hS (fun _ _ h => h) (fun _ h => h) hL hF
    obtain ⟨t2, a1, b1⟩ := kk v M' hp T'.heap (locs ++ L) la hl (by rw [e1]; exact hb) k3 T' rfl X'
    exact ⟨t2, stp t2 a1, b1⟩
  · obtain ⟨k1, k2, k3⟩ := vx_keep h0 e1 hS (fun _ _ h => h) (fun _ h => h) hL hF
    obtain ⟨t2, a1, b1⟩ := kx E M' hp T'.heap (locs ++ L) la ce q hl (by rw [e1]; exact hb) k3 (by rw [e1]; exact hce) hcv hcl T' rfl X'
    exact ⟨t2, stp.trans a1, b1⟩
theorem g_cont5 {H : Heap} {locs : List Loc} {la : Array Slot} {a : Array Value} {mc' ms' : Nat} (hl : gLs la S.2.2.1 ls) (hS : va_S (gA EV) z.2.2.2.2.1.heap H locs)
    (hr : vx_Run5 z.1 z.2.1 z.2.2.1 z.2.2.2.1 z.2.2.2.2.1 z.2.2.2.2.2.1 z.2.2.2.2.2.2.1 z.2.2.2.2.2.2.2.1 z.2.2.2.2.2.2.2.2.1 z.2.2.2.2.2.2.2.2.2 H locs k n mc' ms' (F0 z.2.2.2.2.2.1 pc la st) rest (gQ EV post a) (gX EV px) (gA EV))
    (kx : ∀ (E : String) (M' : gM), px E M' → gT z S EV Q M' (k + mc') (n + ms') pc ls rest E) (kk : ∀ (v : Option Value) (M' : gM), post v M' → gG z S EV Q M' (k + mc') (n + ms') (pc + 5) ls (v.toList ++ rest)) : gW z H locs k n Q pc la st := by
  intro T hT X
  rcases hr T hT X with ⟨v, st₀, t, T', L, h0, X', hL, e1, e2, ⟨⟨v', M', hv, hp, hb⟩, hF⟩, stp⟩ | ⟨q, st₀, t, T', L, E, ce, h0, X', hL, e1, e2, ⟨⟨M', hp, hb⟩, hF⟩, hce, hcv, hcl, stp⟩
  · cases hv
    obtain ⟨k1, k2, k3⟩ := vx_keep h0 e1 hS (fun _ _ h => h) (fun _ h => h) hL hF
    obtain ⟨t2, a1, b1⟩ := kk v M' hp T'.heap (locs ++ L) la hl (by rw [e1]; exact hb) k3 T' rfl X'
    exact ⟨t2, stp t2 a1, b1⟩
  · obtain ⟨k1, k2, k3⟩ := vx_keep h0 e1 hS (fun _ _ h => h) (fun _ h => h) hL hF
    obtain ⟨t2, a1, b1⟩ := kx E M' hp T'.heap (locs ++ L) la ce q hl (by rw [e1]; exact hb) k3 (by rw [e1]; exact hce) hcv hcl T' rfl X'
    exact ⟨t2, stp.trans a1, b1⟩
/-- what a call finds when it begins -/
theorem g_pre (X : CX z S EV) {H : Heap} {locs : List Loc} (hP : gP EV M H) (hS : va_S (gA EV) z.2.2.2.2.1.heap H locs) {av : List Value} : ∀ U : State, U.heap = H → z.2.2.2.2.1.WarmedH U.vm → va_Pc av (gI EV M) av.toArray U := by
  intro U hU hW
  exact ⟨rfl, gE.warm hW (fun a h1 h2 => by rw [hU]; exact hS.2.1 a h1 h2) X.env, by rw [hU]; exact hP, by rw [hU]; exact Nat.le_trans X.base hS.1⟩
theorem g_recv (X : CX z S EV) {H : Heap} (hP : gP EV M H) {b ci : Nat} {t : gTag} {fs : List Value} {r : vw_C} (hM : M b = some (t, .inr (ci, fs))) (hc : vwCl[ci]? = some r) : ∃ cellB : Cell, H[b]? = some cellB ∧ cellB.vm.isStatics = false ∧ z.2.2.2.2.1.vm.findClass r.1 = some cellB.cls :=
  va_recv X.env.1 (hP.one hM) hc (q0 := 0) rfl
/-- static facts of calls -/
def gLkV (own : String) (idx ci : Nat) (y : MethodName) (bytes : ByteArray) (maxL : Nat) (ret : Option FieldType) (nA : Nat) : Prop := ∃ r : vw_C, vwCl[ci]? = some r ∧ GoodIn lw_all (wsV own idx r.1 y (ws_ y bytes maxL ret)) ∧
  (y.cls = r.1 ∧ y.cls ≠ "java/lang/invoke/MethodHandle" ∧ y.cls ≠ "java/lang/invoke/VarHandle" ∧ (parseMethodDescriptor y.desc).map (fun d => d.parameters.length) = some nA) ∧ maxL ≤ 40
def gLkS (own : String) (idx : Nat) (y : MethodName) (bytes : ByteArray) (maxL : Nat) (ret : Option FieldType) (nA : Nat) : Prop := GoodIn lw_all (va_wsS own idx y (ws_ y bytes maxL ret)) ∧
  (y.cls ≠ "java/lang/invoke/MethodHandle" ∧ y.cls ≠ "java/lang/invoke/VarHandle" ∧ (parseMethodDescriptor y.desc).map (fun d => d.parameters.length) = some nA) ∧ maxL ≤ 40
def gLkI (own : String) (idx : Nat) (y : MethodName) (bytes : ByteArray) (maxL : Nat) (nA : Nat) : Prop := GoodIn lw_all (ws_ y bytes maxL none) ∧ Cond.initialized y.cls ∈ lw_all ∧ Cond.methodLink own idx y ∈ lw_all ∧ Cond.instanceMethod y ∈ lw_all ∧ y.name = "<init>" ∧
  (y.cls ≠ "java/lang/invoke/MethodHandle" ∧ y.cls ≠ "java/lang/invoke/VarHandle" ∧ (parseMethodDescriptor y.desc).map (fun d => d.parameters.length) = some nA) ∧ maxL ≤ 40
def gLkU (own : String) (idx ci : Nat) (owner : String) (x y : MethodName) (bytes : ByteArray) (maxL : Nat) (ret : Option FieldType) (nA : Nat) : Prop := ∃ r : vw_C, vwCl[ci]? = some r ∧
  ((GoodIn lw_all (va_wsU own idx r.1 owner x y (ws_ y bytes maxL ret)) ∧ y = ⟨owner, x.name, x.desc⟩) ∨ (GoodIn lw_all (va_wsO own idx r.1 owner x y (ws_ y bytes maxL ret)) ∧ ∃ (b0 : ByteArray) (m0 : Nat) (r0 : Option FieldType), Cond.code ⟨owner, x.name, x.desc⟩ b0 m0 r0 ∈ lw_all) ∨ (GoodIn lw_all (va_wsU own idx r.1 owner x y (ws_ y bytes maxL ret)) ∧ Cond.declares ⟨owner, x.name, x.desc⟩ ∈ lw_tbl)) ∧
  (owner ≠ "java/lang/invoke/MethodHandle" ∧ owner ≠ "java/lang/invoke/VarHandle" ∧ (parseMethodDescriptor x.desc).map (fun d => d.parameters.length) = some nA) ∧ maxL ≤ 40
def gLkF (own : String) (idx ci : Nat) (x y : MethodName) (bytes : ByteArray) (maxL : Nat) (ret : Option FieldType) (nA : Nat) : Prop := ∃ r : vw_C, vwCl[ci]? = some r ∧ GoodIn lw_all (va_wsF own idx r.1 x y (ws_ y bytes maxL ret)) ∧ (r.1, x, y) ∈ gFace ∧
  (x.cls ≠ "java/lang/invoke/MethodHandle" ∧ x.cls ≠ "java/lang/invoke/VarHandle" ∧ (parseMethodDescriptor x.desc).map (fun d => d.parameters.length) = some nA) ∧ maxL ≤ 40
/-- the room of a call within the caller's -/
def gFit (z : gZ) (k n d' mc' ms' : Nat) : Prop := d' + 1 ≤ z.2.2.2.1.frames ∧ 64 * (d' + 1) ≤ z.2.2.2.1.locals ∧ k + mc' ≤ z.2.2.2.1.cells ∧ n + ms' ≤ z.2.2.2.1.slots
theorem gFit.of (hR : z.2.2.2.1 = gRm d mc ms) {d' mc' ms' : Nat} (h1 : d' + 1 ≤ d) (h2 : k + mc' ≤ mc) (h3 : n + ms' ≤ ms) : gFit z k n d' mc' ms' := by
  unfold gFit
  rw [hR]
  exact ⟨h1, Nat.mul_le_mul_left 64 h1, h2, h3⟩
theorem gFit.b {d' mc' ms' maxL : Nat} (h : gFit z k n d' mc' ms') (hm : maxL ≤ 40) : (gRm d' mc' ms').frames + 1 ≤ z.2.2.2.1.frames ∧ 8 + (maxL + 11) + (gRm d' mc' ms').locals ≤ z.2.2.2.1.locals := by
  refine ⟨h.1, ?_⟩
  have h2 := h.2.1
  show 8 + (maxL + 11) + 64 * d' ≤ _
  omega
variable {y x : MethodName} {bytes : ByteArray} {maxL nA idx ci d' mc' ms' : Nat} {ret : Option FieldType} {b : Nat} {t : gTag} {fs : List Value} {owner : String}
theorem g_callV (X : CX z S EV) (hT : S.2.2.2.2.1 pc = some (.invokevirtual idx, 3)) (L : gLkV S.2.1 idx ci y bytes maxL ret nA) (hC : GC z.2.1 y (ws_ y bytes maxL ret) d' mc' ms' EV (.ref b :: As) M post px) (hM : M b = some (t, .inr (ci, fs)))
    (hn : As.length = nA) (hst : st = As.reverse ++ .ref b :: rest) (hw : (rest.map fun v => v.category).sum ≤ 8) (hf : gFit z k n d' mc' ms') (kx : ∀ (E : String) (M' : gM), px E M' → gT z S EV Q M' (k + mc') (n + ms') pc ls rest E)
    (kk : ∀ (v : Option Value) (M' : gM), post v M' → gG z S EV Q M' (k + mc') (n + ms') (pc + 3) ls (v.toList ++ rest)) : gG z S EV Q M k n pc ls st := by
  intro H locs la hl hP hS
  obtain ⟨r, h1, h2, h3, h4⟩ := L
  exact g_cont hl hS (vx_runV ⟨X.exec, X.code, X.maxL, X.own, X.hts⟩ (hC X.tr) (cwV nA X.hts h2 rfl rfl rfl h3 (hf.b h4)) ⟨gI.blind, g_recv X hP hM h1, g_pre X hP hS⟩ rfl hn hl.1.1 hst (lv_room hw) (X.dec hT) hf.2.2) kx kk
theorem g_callS (X : CX z S EV) (hT : S.2.2.2.2.1 pc = some (.invokestatic idx, 3)) (L : gLkS S.2.1 idx y bytes maxL ret nA) (hC : GC z.2.1 y (ws_ y bytes maxL ret) d' mc' ms' EV As M post px)
    (hn : As.length = nA) (hst : st = As.reverse ++ rest) (hw : (rest.map fun v => v.category).sum ≤ 8) (hf : gFit z k n d' mc' ms') (kx : ∀ (E : String) (M' : gM), px E M' → gT z S EV Q M' (k + mc') (n + ms') pc ls rest E)
    (kk : ∀ (v : Option Value) (M' : gM), post v M' → gG z S EV Q M' (k + mc') (n + ms') (pc + 3) ls (v.toList ++ rest)) : gG z S EV Q M k n pc ls st := by
  intro H locs la hl hP hS
  obtain ⟨h2, h3, h4⟩ := L
  exact g_cont hl hS (vx_runS ⟨X.exec, X.code, X.maxL, X.own, X.hts⟩ (hC X.tr) (va_cwS nA X.hts h2 rfl rfl rfl h3 (hf.b h4)) ⟨gI.blind, g_pre X hP hS⟩ rfl hn hl.1.1 hst (lv_room hw) (X.dec hT) hf.2.2) kx kk
theorem g_callI (X : CX z S EV) (hT : S.2.2.2.2.1 pc = some (.invokespecial idx, 3)) (L : gLkI S.2.1 idx y bytes maxL nA) (hC : GC z.2.1 y (ws_ y bytes maxL none) d' mc' ms' EV (.ref b :: As) M post px)
    (hn : As.length = nA) (hst : st = As.reverse ++ .ref b :: rest) (hw : (rest.map fun v => v.category).sum ≤ 8) (hf : gFit z k n d' mc' ms') (kx : ∀ (E : String) (M' : gM), px E M' → gT z S EV Q M' (k + mc') (n + ms') pc ls rest E)
    (kk : ∀ (v : Option Value) (M' : gM), post v M' → gG z S EV Q M' (k + mc') (n + ms') (pc + 3) ls (v.toList ++ rest)) : gG z S EV Q M k n pc ls st := by
  intro H locs la hl hP hS
  obtain ⟨h1, h2, h3, h4, h5, h6, h7⟩ := L
  exact g_cont hl hS (vx_runI ⟨X.exec, X.code, X.maxL, X.own, X.hts⟩ (hC X.tr) (cwI nA X.hts h1 rfl rfl rfl (X.hts _ h2) (X.hts _ h3) (X.hts _ h4) h5 h6 (hf.b h7)) ⟨gI.blind, g_pre X hP hS⟩ rfl hn hl.1.1 hst (lv_room hw) (X.dec hT) hf.2.2) kx kk
theorem g_callU (X : CX z S EV) (hT : S.2.2.2.2.1 pc = some (.invokevirtual idx, 3)) (L : gLkU S.2.1 idx ci owner x y bytes maxL ret nA) (hC : GC z.2.1 y (ws_ y bytes maxL ret) d' mc' ms' EV (.ref b :: As) M post px) (hM : M b = some (t, .inr (ci, fs)))
    (hn : As.length = nA) (hst : st = As.reverse ++ .ref b :: rest) (hw : (rest.map fun v => v.category).sum ≤ 8) (hf : gFit z k n d' mc' ms') (kx : ∀ (E : String) (M' : gM), px E M' → gT z S EV Q M' (k + mc') (n + ms') pc ls rest E)
    (kk : ∀ (v : Option Value) (M' : gM), post v M' → gG z S EV Q M' (k + mc') (n + ms') (pc + 3) ls (v.toList ++ rest)) : gG z S EV Q M k n pc ls st := by
  intro H locs la hl hP hS
  obtain ⟨r, h1, h2, h6, h7⟩ := L
  rcases h2 with ⟨h2, h3⟩ | ⟨h2, b0, m0, r0, h3⟩ | ⟨h2, h3⟩
  · exact g_cont hl hS (vx_runU ⟨X.exec, X.code, X.maxL, X.own, X.hts⟩ (hC X.tr) (va_cwU nA X.hts h2 rfl rfl rfl h3 h6 (hf.b h7)) ⟨gI.blind, g_recv X hP hM h1, g_pre X hP hS⟩ rfl hn hl.1.1 hst (lv_room hw) (X.dec hT) hf.2.2) kx kk
  · exact g_cont hl hS (vx_runU ⟨X.exec, X.code, X.maxL, X.own, X.hts⟩ (hC X.tr) (va_cwO nA X.hts h2 rfl rfl rfl h3 h6 (hf.b h7)) ⟨gI.blind, g_recv X hP hM h1, g_pre X hP hS⟩ rfl hn hl.1.1 hst (lv_room hw) (X.dec hT) hf.2.2) kx kk
  · have ok : ∀ w ∈ va_wsU S.2.1 idx r.1 owner x y (ws_ y bytes maxL ret), w.before z.2.2.2.2.2.2.1 z.2.2.2.2.1 = true := fun w h => X.hts w (h2 w h).1
    have hG : GoodIn lw_all (ws_ y bytes maxL ret) := fun w h => h2 w (by unfold va_wsU; exact List.mem_append_right _ h)
    have hc : Cond.code y bytes maxL ret ∈ ws_ y bytes maxL ret := List.mem_cons_self
    have cw : va_CU z.2.2.2.1 z.2.2.2.2.1 z.2.2.2.2.2.2.1 S.2.1 r.1 owner idx x y bytes maxL ret (ws_ y bytes maxL ret) (gRm d' mc' ms') mc' ms' nA := by
      refine ⟨⟨rfl, rfl, (hf.b h7).1, (hf.b h7).2, pay_in X.hts hG, hc⟩, X.hts _ (hG _ hc).1, ok _ (by simp [va_wsU]), ⟨h6.1, h6.2.1⟩, fun sig h => ?_, ok _ (by simp [va_wsU]), ok _ (by simp [va_wsU]), ?_, ok _ (by simp [va_wsU]), ok _ (by simp [va_wsU])⟩
      · have h2 := h6.2.2
        rw [h] at h2
        exact (Option.some.inj h2).symm
      · exact Cond.declares_spec (va_Nw.use (A := z.2.2.2.2.2.2.1) rfl (X.env.2.1 _ h3 rfl))
    exact g_cont hl hS (vx_runU ⟨X.exec, X.code, X.maxL, X.own, X.hts⟩ (hC X.tr) cw ⟨gI.blind, g_recv X hP hM h1, g_pre X hP hS⟩ rfl hn hl.1.1 hst (lv_room hw) (X.dec hT) hf.2.2) kx kk
theorem g_callF (X : CX z S EV) {count : Nat} (hT : S.2.2.2.2.1 pc = some (.invokeinterface idx count, 5)) (L : gLkF S.2.1 idx ci x y bytes maxL ret nA) (hC : GC z.2.1 y (ws_ y bytes maxL ret) d' mc' ms' EV (.ref b :: As) M post px) (hM : M b = some (t, .inr (ci, fs)))
    (hn : As.length = nA) (hst : st = As.reverse ++ .ref b :: rest) (hw : (rest.map fun v => v.category).sum ≤ 8) (hf : gFit z k n d' mc' ms') (kx : ∀ (E : String) (M' : gM), px E M' → gT z S EV Q M' (k + mc') (n + ms') pc ls rest E)
    (kk : ∀ (v : Option Value) (M' : gM), post v M' → gG z S EV Q M' (k + mc') (n + ms') (pc + 5) ls (v.toList ++ rest)) : gG z S EV Q M k n pc ls st := by
  intro H locs la hl hP hS
  obtain ⟨r, h1, h2, h3, h4, h5⟩ := L
  exact g_cont5 hl hS (vx_runF (X.env.1.1 ci r h1).2 ⟨X.exec, X.code, X.maxL, X.own, X.hts⟩ (hC X.tr) (va_cwF nA X.hts h2 rfl rfl rfl (X.env.2.2.2.1 _ h3) h4 (hf.b h5)) ⟨gI.blind, g_recv X hP hM h1, g_pre X hP hS⟩ rfl hn hl.1.1 hst (lv_room hw) (X.dec hT) hf.2.2) kx kk
/-- Object.<init> -/
theorem g_oinit (X : CX z S EV) (hT : S.2.2.2.2.1 pc = some (.invokespecial idx, 3)) (hl0 : Cond.methodLink S.2.1 idx objectInit ∈ lw_all) (hf : 1 ≤ z.2.2.2.1.frames ∧ 64 ≤ z.2.2.2.1.locals) (hw : (rest.map fun v => v.category).sum ≤ 8) (kk : gG z S EV Q M k n (pc + 3) ls rest) : gG z S EV Q M k n pc ls (.ref b :: rest) := by
  intro H locs la hl hP hS
  have h0 : (F0 z.2.2.2.2.2.1 pc la (Value.ref b :: rest)).monitorRoom = 0 := rfl
  refine W.objInit X.exec X.code X.own (X.hts _ hl0) (X.hts _ q113) (X.hts _ q114) rfl (hl.1.1.trans X.maxL.symm) rfl (X.dec hT) hf.1 (by omega) ?_
  exact kk H locs la hl hP hS
/-! ends -/
/-- what a body owes -/
def gEnd (z : gZ) (EV : gEV) (post : Option Value → gM → Prop) (px : String → gM → Prop) (mc ms : Nat) : State → Prop := vx_MQ z.2.2.2.2.2.2.2.1 (gQ EV post) (gX EV px) z.2.2.2.2.2.2.1 z.2.2.2.2.1 mc ms (gA EV)
theorem g_iret (X : CX z S EV) {v : Int32} (hQ : Q = gEnd z EV post px mc ms) (hT : S.2.2.2.2.1 pc = some (.ireturn, 1)) (hr : S.2.2.2.1 = some .int) (hk : k ≤ mc) (hn : n ≤ ms) (hp : post (some (.int v)) M) : gG z S EV Q M k n pc ls [.int v] := by
  intro H locs la hl hP hS
  subst hQ
  refine W.widen hk hn (vx_ret (W.iret X.exec X.code (X.ret.trans hr) (fun t ht _ => ⟨⟨_, M, rfl, hp, by rw [ht]; exact hP⟩, hS.F ht⟩) hS.2.2 (X.dec hT) X.locks))
theorem g_zret (X : CX z S EV) {v : Int32} {ty : FieldType} (hQ : Q = gEnd z EV post px mc ms) (hT : S.2.2.2.2.1 pc = some (.ireturn, 1)) (hr : S.2.2.2.1 = some ty) (hnr : narrow ty (.int v) = .int v) (hk : k ≤ mc) (hn : n ≤ ms) (hp : post (some (.int v)) M) : gG z S EV Q M k n pc ls [.int v] := by
  intro H locs la hl hP hS
  subst hQ
  refine W.widen hk hn (vx_ret (W.zret X.exec X.code (X.ret.trans hr) hnr (fun t ht _ => ⟨⟨_, M, rfl, hp, by rw [ht]; exact hP⟩, hS.F ht⟩) hS.2.2 (X.dec hT) X.locks))
theorem g_aret (X : CX z S EV) {v : Value} {rt : FieldType} (hQ : Q = gEnd z EV post px mc ms) (hT : S.2.2.2.2.1 pc = some (.areturn, 1)) (hr : S.2.2.2.1 = some rt) (hrt : (∃ n, rt = .object n) ∨ ∃ t, rt = .array t) (hv : v = .null ∨ ∃ a, v = .ref a) (hk : k ≤ mc) (hn : n ≤ ms) (hp : post (some v) M) : gG z S EV Q M k n pc ls [v] := by
  intro H locs la hl hP hS
  subst hQ
  refine W.widen hk hn (vx_ret (W.aret X.exec X.code (X.ret.trans hr) hrt hv (fun t ht _ => ⟨⟨_, M, rfl, hp, by rw [ht]; exact hP⟩, hS.F ht⟩) hS.2.2 (X.dec hT) X.locks))
theorem g_vret (X : CX z S EV) (hQ : Q = gEnd z EV post px mc ms) (hT : S.2.2.2.2.1 pc = some (.return_, 1)) (hr : S.2.2.2.1 = none) (hk : k ≤ mc) (hn : n ≤ ms) (hp : post none M) : gG z S EV Q M k n pc ls [] := by
  intro H locs la hl hP hS
  subst hQ
  refine W.widen hk hn (vx_ret (W.vret X.exec X.code (X.ret.trans hr) (fun t ht _ => ⟨⟨_, M, rfl, hp, by rw [ht]; exact hP⟩, hS.F ht⟩) hS.2.2 (X.dec hT) X.locks))
/-- not caught here -/
theorem g_out (X : CX z S EV) {E : String} (hQ : Q = gEnd z EV post px mc ms) (hE : ∀ x ∈ z.2.2.2.2.2.2.2.2.2.exceptionTable.toList, False) (hk : k ≤ mc) (hn : n ≤ ms) (hp : px E M) : gT z S EV Q M k n pc ls rest E := by
  intro H locs la ce q hl hP hS h1 h2 h3
  subst hQ
  exact vx_out (fun x hx => (hE x hx).elim) X.locks h1 h2 h3 (fun t ht _ => ⟨⟨M, hp, by rw [ht]; exact hP⟩, hS.F ht⟩) hS.2.2 hk hn
/-- words of a throw, by their places -/
theorem gAt {ws : List Cond} (ps : List Nat) (hp : ws = ps.filterMap (fun i => lw_tbl[i]?)) (hg : ws.all (fun w => goodWord w || gKind w) = true) : ∀ w ∈ ws, w ∈ lw_tbl ∧ (goodWord w = true ∨ gKind w = true) := by
  intro w h
  have h1 := List.all_eq_true.mp hg w h
  rw [hp] at h
  obtain ⟨i, -, hi⟩ := List.mem_filterMap.mp h
  refine ⟨List.mem_of_getElem? hi, ?_⟩
  simpa using h1
theorem gAt.use (X : CX z S EV) {w : Cond} (h : w ∈ lw_tbl ∧ (goodWord w = true ∨ gKind w = true)) : w.before z.2.2.2.2.2.2.1 z.2.2.2.2.1 = true := by
  rcases h.2 with h2 | h2
  · exact X.hts _ (lw_g h.1 h2)
  · exact va_Nw.use (gKind_tab h2) (X.env.2.1 _ h.1 h2)
theorem g_throw0 (X : CX z S EV) (hR : z.2.2.2.1 = gRm d mc ms) {cls : String} {names : List String} {ik ic : Nat} (hQ : Q = gEnd z EV post px mc ms) (hE : ∀ x ∈ z.2.2.2.2.2.2.2.2.2.exceptionTable.toList, False)
    (hcls : Bundle.fit cls = true) (hnames : ∀ n ∈ names, Bundle.fit n = true) (hk : Cond.classLink S.2.1 ik cls ∈ lw_all) (hini : Cond.initialized cls ∈ lw_all) (hat : ∀ w ∈ vx_at0 S.2.1 ic cls names, w ∈ lw_tbl ∧ (goodWord w = true ∨ gKind w = true))
    (hgood : ∀ w ∈ Cond.classLink S.2.1 ik cls :: Cond.initialized cls :: vx_at0 S.2.1 ic cls names, vx_ot w = true)
    (d0 : S.2.2.2.2.1 pc = some (.new ik, 3)) (d3 : S.2.2.2.2.1 (pc + 3) = some (.dup, 1)) (d4 : S.2.2.2.2.1 (pc + 4) = some (.invokespecial ic, 3)) (d7 : S.2.2.2.2.1 (pc + 7) = some (.athrow, 1))
    (hf : names.length + 3 < d) (hlo : 13 * (names.length + 1) + 42 ≤ 64 * d) (hkc : k + 1 ≤ mc) (hns : n + 6 ≤ ms) (hp : px cls M) : gG z S EV Q M k n pc ls [] := by
  intro H locs la hl hP hS
  subst hQ
  refine vx_throw0 X.exec X.code X.tr X.own hcls hnames (X.hts _ hk) (X.hts _ hini) (fun w hw => gAt.use X (hat w hw)) hgood X.env.2.2.2.2.2.1 X.env.2.2.2.2.2.2.1 hS (hl.1.1.trans X.maxL.symm) (X.dec d0) (X.dec d3) (X.dec d4) (X.dec d7) (fun x hx => (hE x hx).elim) ?_ ?_ (rc hR hkc) (rs hR hns) X.locks ?_ hS.2.2 hkc hns
  · rw [hR]; exact hf
  · rw [hR]; show 0 + _ ≤ 64 * d; omega
  · intro t ht h1 h2
    refine ⟨⟨M, hp, fun a tg e hM => ⟨(hP a tg e hM).1.kept (h2 a (hP.lt hM)), (hP a tg e hM).2⟩⟩, Nat.le_trans hS.1 h1, fun q hq hA => (h2 q (Nat.lt_of_lt_of_le hq hS.1)).trans (hS.2.1 q hq hA)⟩
end GR
/-! the start of a body -/
def gLoc (av : List Value) (nL : Nat) : List (Option Value) := av.map some ++ List.replicate (nL - av.length) none
theorem gLs_entry {av : List Value} {nL : Nat} (h1 : ∀ v ∈ av, v.category = 1) (h2 : av.length ≤ nL) : gLs ((lg_sl av ++ List.replicate (nL - (lg_sl av).length) Slot.unset).toArray) nL (gLoc av nL) := by
  have hA : ∀ (vs : List Value) (i : Nat), (∀ v ∈ vs, v.category = 1) → ∀ (j : Nat) (v : Value), vs[j]? = some v → (i + j, v) ∈ lv_args i vs := by
    intro vs
    induction vs with
    | nil => intro i _ j v hj; simp at hj
    | cons w vs ih =>
      intro i hc j v hj
      have hw : w.category = 1 := hc w List.mem_cons_self
      rw [lv_args, if_neg (by omega)]
      cases j with
      | zero => simp at hj; subst hj; exact List.mem_cons_self
      | succ j =>
        have := ih (i + 1) (fun v hv => hc v (List.mem_cons_of_mem _ hv)) j v (by simpa using hj)
        rw [show i + (j + 1) = i + 1 + j by omega]
        exact List.mem_cons_of_mem _ this
  have hS : ∀ (vs : List Value), (∀ v ∈ vs, v.category = 1) → (lg_sl vs).length = vs.length := by
    intro vs
    induction vs with
    | nil => intro _; rfl
    | cons w vs ih =>
      intro hc
      have hw : w.category = 1 := hc w List.mem_cons_self
      have := ih (fun v hv => hc v (List.mem_cons_of_mem _ hv))
      simp only [lg_sl, List.flatMap_cons, List.length_append] at this ⊢
      rw [this]
      simp [hw]
      omega
  have h := lv_entry av (n := nL) (by rw [hS av h1]; exact h2)
  have hG : ∀ (j : Nat) (v : Value), (gLoc av nL)[j]? = some (some v) → av[j]? = some v := by
    intro j v hj
    unfold gLoc at hj
    by_cases hlt : j < av.length
    · rw [List.getElem?_append_left (by simpa using hlt), List.getElem?_map] at hj
      cases hx : av[j]? with
      | none => rw [hx] at hj; cases hj
      | some w => rw [hx] at hj; simpa using hj
    · rw [List.getElem?_append_right (by simpa using hlt), List.getElem?_replicate] at hj
      split at hj <;> cases hj
  refine ⟨⟨h.1, h.2.1, fun q hq => ?_⟩, fun j v hj => h1 v (List.mem_of_getElem? (hG j v hj))⟩
  obtain ⟨j, hj, hl⟩ := (gPairs_mem _ 0 q.1 q.2).mp hq
  have := hA av 0 h1 j q.2 (hG j q.2 hl)
  have e : (q.1, q.2) = (0 + j, q.2) := by rw [hj]
  exact h.2.2 q (by rw [show q = (q.1, q.2) from rfl, e]; exact this)
/-- a contract by its body; nm: the method's name, tb: its table -/
theorem g_body {l : Launch} {y : MethodName} {cc : ByteArray} {nL : Nat} {ret : Option FieldType} {d mc ms : Nat} {EV : gEV} {av : List Value} {M : gM} {post : Option Value → gM → Prop} {px : String → gM → Prop} (tb : Nat → Option (Instr × Nat)) (tk : tkAll cc tb)
    (hy : plainName y.cls = true) (h1 : ∀ v ∈ av, v.category = 1) (h2 : av.length ≤ nL)
    (body : ∀ (z : gZ) (Q : State → Prop), CX z (cc, y.cls, nL, ret, tb, y.name) EV → z.2.1 = l → z.2.2.2.1 = gRm d mc ms → Q = gEnd z EV post px mc ms → (∀ x ∈ z.2.2.2.2.2.2.2.2.2.exceptionTable.toList, False) → gG z (cc, y.cls, nL, ret, tb, y.name) EV Q M 0 0 0 (gLoc av nL) []) :
    GC l y (ws_ y cc nL ret) d mc ms EV av M post px := by
  intro hl
  refine vx_ofW (cc := cc) (maxL := nL) (ret := ret) hy rfl ?_
  intro p e s m args below meth c s₁ B hml hE hv
  obtain ⟨rfl, hG, hP, hb⟩ := hv
  have hts := atoms_spec (ws := ws_ y cc nL ret) B.pre
  have hts : ∀ w ∈ lw_all, w.before av.toArray s = true := fun w h => hts w (List.mem_cons_of_mem _ h)
  rw [lg_entry_eq]
  exact body (p, l, e, gRm d mc ms, s, m, av.toArray, below, meth, c) _ ⟨B.exec, B.bytes, B.returns, B.notSynchronized, hml, findClass_of_methodNamed B.named, hts, hG, hb, tk, (name_of_methodNamed B.named B.method).1, hl⟩ rfl rfl rfl hE s.heap [] _ (gLs_entry h1 h2) hP va_S.rf
