/-! calls on the constants of the enum: methods that answer a constant; their classes need not be said to be initialised -/
theorem gConst {p : Program} {e : Env} {below : List Frame} {s target : State} {g : JFrame} {c : Code} (h : At s g.method c below) (hexec : p.tables.exec = Jvm.exec) {m : MethodId} {x : MethodName} (hx : plainFor x = true) (hname : s.methodNamed? x = some m) {meth : Method} {code : Code} {args : Array Value} {ig : Instr} {len : Nat} {cc : ByteArray} {nn : Int} (acts : List Action)
    (hm : s.vm.method? m = some meth) (hc : meth.code = some code) (hbytes : code.code = cc) (d0 : decode cc 0 = .ok (.iconst nn, 1)) (d1 : decode cc 1 = .ok (.ireturn, 1)) (hr : meth.sig.returnType = some .boolean) (hn : narrow .boolean (.int (Int32.ofInt nn)) = .int (Int32.ofInt nn)) (hl : meth.locks = false)
    (hroom : e.platform.stackFull (((s.setTop g).threads[(s.setTop g).cur]?).getD { frames := [] }) (s.setTop g).frames code.maxLocals = false) (hdg : decode c.code g.pc = .ok (ig, len))
    (hrest : Steps p.tables e below (s.setTop { g with pc := g.pc + len, stack := .int (Int32.ofInt nn) :: g.stack }) target) : Steps p.tables e below (doInvoke e (s.setTop g) acts m args).1 target := by
  rw [doInvoke_enter h.top acts hm hc hl hroom]
  have hf := frames_entered (g := g) h.top (.java (entryFrame m args code.maxLocals))
  have hA := At.enter h args hm hc (State.plainMethod.of_named hx hname hm)
  have hS := setFrames_entered (s := s) (g := g) h.top (.java (entryFrame m args code.maxLocals))
  have hm1 : ((s.setTop g).pushFrame (.java (entryFrame m args code.maxLocals))).vm.method? m = some meth := by simpa [State.pushFrame, State.setFrames] using hm
  have hc1 : ((s.setTop g).pushFrame (.java (entryFrame m args code.maxLocals))).code? g.method = some c := by
    have := h.code; rw [State.code?_eq] at this ⊢; simpa [State.pushFrame, State.setFrames] using this
  generalize (s.setTop g).pushFrame (.java (entryFrame m args code.maxLocals)) = S1 at hA hf hS hm1 hc1 ⊢
  unfold entryFrame at hf ⊢
  jvm_step hA [hexec, hbytes, d0]
  jvm_step hA [hexec, hbytes, d1, hm1, hr, hn]
  (try refine ⟨rfl, ?_⟩); (try refine ⟨rfl, ?_⟩)
  first | intro acts' | skip
  rw [doReturn_leave (g := g) (meth := meth) (cg := c) (ig := ig) (len := len) _ hf hm1 hl rfl rfl hc1 hdg, hS, State.setTop_setTop]
  simpa using hrest
section GR
variable {z : gZ} {S : gS} {EV : gEV} {Q : State → Prop} {M : gM} {k n pc : Nat} {ls : List (Option Value)} {st rest : List Value} {mc ms d : Nat}
/-- the words of a call on a constant of class C to a method y of two instructions -/
def gLkC (own : String) (idx : Nat) (C owner : String) (x y : MethodName) (bytes : ByteArray) : Prop :=
  Cond.methodLink own idx x ∈ lw_all ∧ Cond.sameMethod x.cls owner x.name x.desc ∈ lw_all ∧ Cond.instanceMethod ⟨owner, x.name, x.desc⟩ ∈ lw_all ∧ (∃ (b0 : ByteArray) (m0 : Nat) (r0 : Option FieldType), Cond.code ⟨owner, x.name, x.desc⟩ b0 m0 r0 ∈ lw_all) ∧ Cond.selects C x y ∈ lw_all ∧ Cond.instanceMethod y ∈ lw_all ∧ Cond.code y bytes 1 (some .boolean) ∈ lw_all ∧
  (owner ≠ "java/lang/invoke/MethodHandle" ∧ owner ≠ "java/lang/invoke/VarHandle") ∧ (parseMethodDescriptor x.desc).map (fun d => d.parameters.length) = some 0 ∧ plainFor y = true
theorem g_callC (X : CX z S EV) {i : Nat} (hi : i < 6) {C owner : String} (hCl : (gEnum i).2 = C) {idx : Nat} {x y : MethodName} {bytes : ByteArray} {nn : Int} (hT : S.2.2.2.2.1 pc = some (.invokevirtual idx, 3)) (LK : gLkC S.2.1 idx C owner x y bytes)
    (d0 : decode bytes 0 = .ok (.iconst nn, 1)) (d1 : decode bytes 1 = .ok (.ireturn, 1)) (hnn : nn = 0 ∨ nn = 1) (hw : (rest.map fun v => v.category).sum ≤ 8) (hf : 1 ≤ z.2.2.2.1.frames ∧ 64 ≤ z.2.2.2.1.locals)
    (kk : gG z S EV Q M k n (pc + 3) ls (.int (iI nn) :: rest)) : gG z S EV Q M k n pc ls (.ref (EV.2.2.2 (10 + i)) :: rest) := by
  intro H locs la hl hP hS
  obtain ⟨l1, l2, l3, ⟨b0, m0, r00, l4⟩, l5, l6, l7, l8, l9, l10⟩ := LK
  obtain ⟨cellB, hcB, hoB, hclB⟩ := g_recvO X hS hi hCl
  intro T hT9 X9
  obtain ⟨r0, r, hn, hrm, hstR, hsigR⟩ := va_Decl.of (X.hts _ l3) (X.hts _ l4)
  have hsame := X.hts _ l2
  obtain ⟨cn, ck, r1, hcn, hck, hni, hf9, hn1⟩ := Cond.sameMethod_found hsame
  cases hn.symm.trans hn1
  obtain ⟨mk, methM, hnamed, hmethM, -, habM⟩ := Cond.instanceMethod_spec (X.hts _ l6)
  obtain ⟨c2, r2, m2, q1, q2, q3, q4, kP, hkP, hkPi⟩ := Cond.selects_spec (X.hts _ l5)
  cases hclB.symm.trans q1
  cases hf9.symm.trans q2
  cases hnamed.symm.trans q3
  have hselP : selectMethod z.2.2.1.platform z.2.2.2.2.1.vm cellB.cls r0 = .method mk := by rw [Launch.admits_selectMethod X9.admits]; exact q4
  have hlen : ([] : List Value).length = r.sig.parameters.length := by
    rw [hsigR] at l9
    exact (Option.some.inj l9).symm
  obtain ⟨vm₁, X₁, hstep₁⟩ := X9.invokevirtualUp X.exec X.own (X.hts _ l1) hsame l8 hn hrm hstR (a := EV.2.2.2 (10 + i)) (cell := cellB) (by rw [hT9]; exact hcB)
    (fun z h => by rw [h] at hoB; cases hoB) hselP hmethM habM hkP hkPi (g := F0 z.2.2.2.2.2.1 pc la (.ref (EV.2.2.2 (10 + i)) :: rest)) rfl (argsL := []) (rest := rest) hlen rfl (by rw [X.code]; exact X.dec hT)
  obtain ⟨meth', c', g1, g2, g3, g4, g5, g6, -, -⟩ := Cond.code_spec hnamed (X.hts _ l7)
  cases hmethM.symm.trans g1
  obtain ⟨t9, a1, b1⟩ := kk H locs la hl hP hS (T.setVm vm₁) hT9 X₁
  refine ⟨t9, hstep₁ _ (fun acts => ?_), b1⟩
  have hal := X₁.warmed.alike
  refine gConst (x := y) (cc := bytes) (nn := nn) (g := { F0 z.2.2.2.2.2.1 pc la (.ref (EV.2.2.2 (10 + i)) :: rest) with stack := rest }) X₁.here X.exec l10 (X₁.named hnamed) acts (by rw [hal.method?]; exact g1) g2 g3 d0 d1 g5 (by rcases hnn with rfl | rfl <;> decide) g6 ?_ (by rw [X.code]; exact X.dec hT) a1
  rw [g4]
  have h0 : (F0 z.2.2.2.2.2.1 pc la rest).monitorRoom = 0 := rfl
  refine X₁.notFull (g := F0 z.2.2.2.2.2.1 pc la rest) (hl.1.1.trans X.maxL.symm) hf.1 ?_
  show 2 * 0 + (rest.map fun v => v.category).sum + (1 + 11) ≤ _
  omega
end GR
