/-! ROWS, fourth part: old objects as receivers, nest mates, handlers -/
section GR
variable {z : gZ} {S : gS} {EV : gEV} {Q : State → Prop} {M : gM} {k n pc : Nat} {ls : List (Option Value)} {st rest As : List Value} {mc ms d : Nat} {post : Option Value → gM → Prop} {px : String → gM → Prop}
variable {y x : MethodName} {bytes : ByteArray} {maxL nA idx ci d' mc' ms' : Nat} {ret : Option FieldType} {b : Nat} {t : gTag} {fs : List Value} {owner : String}
/-- a private constructor of a nest mate -/
def gLkN (own : String) (idx : Nat) (y : MethodName) (host : String) (bytes : ByteArray) (maxL : Nat) (nA : Nat) : Prop := GoodIn lw_all (ws_ y bytes maxL none) ∧ Cond.initialized y.cls ∈ lw_all ∧ Cond.methodLinkNest own idx y host ∈ lw_tbl ∧ Cond.instanceMethod y ∈ lw_all ∧ y.name = "<init>" ∧
  (y.cls ≠ "java/lang/invoke/MethodHandle" ∧ y.cls ≠ "java/lang/invoke/VarHandle" ∧ (parseMethodDescriptor y.desc).map (fun d => d.parameters.length) = some nA) ∧ maxL ≤ 40
theorem g_callN (X : CX z S EV) {host : String} (hT : S.2.2.2.2.1 pc = some (.invokespecial idx, 3)) (L : gLkN S.2.1 idx y host bytes maxL nA) (hC : GC z.2.1 y (ws_ y bytes maxL none) d' mc' ms' EV (.ref b :: As) M post px)
    (hn : As.length = nA) (hst : st = As.reverse ++ .ref b :: rest) (hw : (rest.map fun v => v.category).sum ≤ 8) (hf : gFit z k n d' mc' ms') (kx : ∀ (E : String) (M' : gM), px E M' → gT z S EV Q M' (k + mc') (n + ms') pc ls rest E)
    (kk : ∀ (v : Option Value) (M' : gM), post v M' → gG z S EV Q M' (k + mc') (n + ms') (pc + 3) ls (v.toList ++ rest)) : gG z S EV Q M k n pc ls st := by
  intro H locs la hl hP hS
  obtain ⟨h1, h2, h3, h4, h5, h6, h7⟩ := L
  exact g_cont hl hS (vx_runIN (host := host) ⟨X.exec, X.code, X.maxL, X.own, X.hts⟩ (hC X.tr) ⟨va_cnB nA X.hts h1 rfl rfl rfl (g_nw X h3 rfl) (X.hts _ h2) h6 (hf.b h7), h5, X.hts _ h4⟩ ⟨gI.blind, g_pre X hP hS⟩ rfl hn hl.1.1 hst (lv_room hw) (X.dec hT) hf.2.2) kx kk
/-- an enum's constant: where it lies, its class -/
theorem g_recvO (X : CX z S EV) {H : Heap} {locs : List Loc} (hS : va_S (gA EV) z.2.2.2.2.1.heap H locs) {i : Nat} (hi : i < 6) {C : String} (hC : (gEnum i).2 = C) : ∃ cellB : Cell, H[EV.2.2.2 (10 + i)]? = some cellB ∧ cellB.vm.isStatics = false ∧ z.2.2.2.2.1.vm.findClass C = some cellB.cls := by
  subst hC
  exact va_Orecv (X.stat.2.2.2.2.2.1 i hi).2.1 hS
/-- a call on an enum's constant i of class C, to y -/
def gLkO (own : String) (idx : Nat) (C owner : String) (x y : MethodName) (bytes : ByteArray) (maxL : Nat) (ret : Option FieldType) (nA : Nat) : Prop :=
  ((GoodIn lw_all (va_wsU own idx C owner x y (ws_ y bytes maxL ret)) ∧ y = ⟨owner, x.name, x.desc⟩) ∨ (GoodIn lw_all (va_wsO own idx C owner x y (ws_ y bytes maxL ret)) ∧ ∃ (b0 : ByteArray) (m0 : Nat) (r0 : Option FieldType), Cond.code ⟨owner, x.name, x.desc⟩ b0 m0 r0 ∈ lw_all)) ∧
  (owner ≠ "java/lang/invoke/MethodHandle" ∧ owner ≠ "java/lang/invoke/VarHandle" ∧ (parseMethodDescriptor x.desc).map (fun d => d.parameters.length) = some nA) ∧ maxL ≤ 40
theorem g_callO (X : CX z S EV) {i : Nat} (hi : i < 6) {C : String} (hCl : (gEnum i).2 = C) (hT : S.2.2.2.2.1 pc = some (.invokevirtual idx, 3)) (L : gLkO S.2.1 idx C owner x y bytes maxL ret nA) (hC : GC z.2.1 y (ws_ y bytes maxL ret) d' mc' ms' EV (.ref (EV.2.2.2 (10 + i)) :: As) M post px)
    (hn : As.length = nA) (hst : st = As.reverse ++ .ref (EV.2.2.2 (10 + i)) :: rest) (hw : (rest.map fun v => v.category).sum ≤ 8) (hf : gFit z k n d' mc' ms') (kx : ∀ (E : String) (M' : gM), px E M' → gT z S EV Q M' (k + mc') (n + ms') pc ls rest E)
    (kk : ∀ (v : Option Value) (M' : gM), post v M' → gG z S EV Q M' (k + mc') (n + ms') (pc + 3) ls (v.toList ++ rest)) : gG z S EV Q M k n pc ls st := by
  intro H locs la hl hP hS
  obtain ⟨h2, h6, h7⟩ := L
  rcases h2 with ⟨h2, h3⟩ | ⟨h2, b0, m0, r0, h3⟩
  · exact g_cont hl hS (vx_runU ⟨X.exec, X.code, X.maxL, X.own, X.hts⟩ (hC X.tr) (va_cwU nA X.hts h2 rfl rfl rfl h3 h6 (hf.b h7)) ⟨gI.blind, g_recvO X hS hi hCl, g_pre X hP hS⟩ rfl hn hl.1.1 hst (lv_room hw) (X.dec hT) hf.2.2) kx kk
  · exact g_cont hl hS (vx_runU ⟨X.exec, X.code, X.maxL, X.own, X.hts⟩ (hC X.tr) (va_cwO nA X.hts h2 rfl rfl rfl h3 h6 (hf.b h7)) ⟨gI.blind, g_recvO X hS hi hCl, g_pre X hP hS⟩ rfl hn hl.1.1 hst (lv_room hw) (X.dec hT) hf.2.2) kx kk
/-- its ordinal -/
theorem g_ord (X : CX z S EV) {i : Nat} (hi : i < 6) (hT : S.2.2.2.2.1 pc = some (.getfield idx, 3)) (hk : Cond.fieldLink S.2.1 idx "java/lang/Enum" "ordinal" "I" ∈ lw_all) (kk : gG z S EV Q M k n (pc + 3) ls (.int (Int32.ofNat i) :: st)) : gG z S EV Q M k n pc ls (.ref (EV.2.2.2 (10 + i)) :: st) := by
  intro H locs la hl hP hS
  obtain ⟨cf, k9, fi, f, cell, h1, h2, h3, h4, h5, h6⟩ := ((X.stat.2.2.2.2.2.1 i hi).2.2).kept hS.2.1
  exact W.getf X.exec X.code X.own (X.hts _ hk) h1 h2 h3 h4 h5 rfl rfl (X.dec hT) (kk H locs la hl hP hS)
/-- what is thrown is caught by the handler x of this method -/
theorem g_catch (X : CX z S EV) {E name : String} (pre : List ExceptionTableEntry) (x : ExceptionTableEntry) (suf : List ExceptionTableEntry) (hsplit : z.2.2.2.2.2.2.2.2.2.exceptionTable.toList = pre ++ x :: suf)
    (hpass : ∀ w ∈ pre, covers w pc = false ∨ (w.catchType ≠ 0 ∧ ∃ nm : String, Cond.classLink S.2.1 w.catchType nm ∈ lw_all ∧ (E, nm) ∈ gNoCast)) (hx : covers x pc = true) (h0 : x.catchType ≠ 0)
    (hlink : Cond.classLink S.2.1 x.catchType name ∈ lw_all) (hcast : Cond.castable E name ∈ lw_tbl) (kk : ∀ q : Nat, gG z S EV Q M k n x.handlerPc ls [.ref q]) : gT z S EV Q M k n pc ls rest E := by
  intro H locs la ce q hl hP hS h1 h2 h3
  exact vx_catch X.own pre x suf hsplit (fun w hw => (hpass w hw).imp id (fun h => ⟨h.1, h.2.choose, X.hts _ h.2.choose_spec.1, X.env.2.2.2.2.1 _ h.2.choose_spec.2⟩)) hx h0 (X.hts _ hlink) (va_Nw.use rfl (g_nw X hcast rfl)) h1 h2 h3 (kk q H locs la hl hP hS)
end GR
