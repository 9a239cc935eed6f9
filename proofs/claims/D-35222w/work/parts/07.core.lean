/-! THE CORE: a picture M of the heap (address ↦ tag, contents), one judgement gG over it, rows and calls. -/
abbrev gTag : Type := Nat × Nat
abbrev gM : Type := Nat → Option (gTag × va_E)
abbrev vwCl : List vw_C := [(RX1, TX1, 11), (RJ2, TJ2, 3), (RJ7, TJ7, 4), (RJ5, TJ5, 12), (RX2, TX2, 2), (RX3, TX3, 2), (RJ23, TJ23, 6), (RX5, TX5, 4), (RJ29, TJ29, 3), (RX6, TX6, 2), (RJ30, TJ30, 3), (RJ31, TJ31, 4), (RX7, TX7, 3), (RX8, TX8, 5), (RJ35, TJ35, 4), (RX9, TX9, 6), (RX10, TX10, 7), (RJ39, TJ39, 5), (RX12, TX12, 3), (RX13, TX13, 1), (RX14, TX14, 2), (RX4, TX4, 30)]
/-- the frame of all contracts: class numbers, array classes, the first address that is ours, addresses of old objects -/
abbrev gEV : Type := va_G × (Nat → ClassId) × Nat × (Nat → Nat)
def gTys (dA : Nat → ClassId) : List (ClassId × FieldType) := [(dA 0, .int), (dA 1, .boolean), (dA 2, .object "java/lang/Object"), (dA 3, .object "TrunkYards$Trunk"), (dA 4, .object "java/util/HashMap$Node"), (dA 5, .array .int), (dA 6, .array .boolean), (dA 7, .long)]
def gA (EV : gEV) : Nat → Prop := fun q => EV.2.2.1 ≤ q
def gKind : Cond → Bool
  | .fieldLinkNest _ _ _ _ _ _ => true
  | .methodLinkNest _ _ _ _ => true
  | .declares _ => true
  | .castable _ _ => true
  | _ => false
def gFace : List (String × MethodName × MethodName) := [
  ("java/util/ArrayList$Itr", ⟨"java/util/Iterator", "hasNext", "()Z"⟩, ⟨"java/util/ArrayList$Itr", "hasNext", "()Z"⟩),
  ("java/util/ArrayList$Itr", ⟨"java/util/Iterator", "next", "()Ljava/lang/Object;"⟩, ⟨"java/util/ArrayList$Itr", "next", "()Ljava/lang/Object;"⟩),
  ("java/util/LinkedList$ListItr", ⟨"java/util/Iterator", "hasNext", "()Z"⟩, ⟨"java/util/LinkedList$ListItr", "hasNext", "()Z"⟩),
  ("java/util/LinkedList$ListItr", ⟨"java/util/Iterator", "next", "()Ljava/lang/Object;"⟩, ⟨"java/util/LinkedList$ListItr", "next", "()Ljava/lang/Object;"⟩),
  ("java/util/ArrayDeque$DeqIterator", ⟨"java/util/Iterator", "hasNext", "()Z"⟩, ⟨"java/util/ArrayDeque$DeqIterator", "hasNext", "()Z"⟩),
  ("java/util/ArrayDeque$DeqIterator", ⟨"java/util/Iterator", "next", "()Ljava/lang/Object;"⟩, ⟨"java/util/ArrayDeque$DeqIterator", "next", "()Ljava/lang/Object;"⟩),
  ("java/util/LinkedList", ⟨"java/util/Collection", "toArray", "()[Ljava/lang/Object;"⟩, ⟨"java/util/LinkedList", "toArray", "()[Ljava/lang/Object;"⟩)]
def gOver : List String := ["java/lang/Object", "TrunkYards$Trunk", "java/util/HashMap$Node"]
/-- pairs of classes that aren't castable -/
def gNoCast : List (String × String) := [("TrunkYards$Shunted", "TrunkYards$Placed"), ("TrunkYards$Departed", "TrunkYards$Placed"), ("TrunkYards$Departed", "TrunkYards$Shunted"), ("TrunkYards$Arrived", "TrunkYards$Placed"), ("TrunkYards$Arrived", "TrunkYards$Shunted"), ("TrunkYards$Arrived", "TrunkYards$Departed"),
  ("java/lang/IllegalStateException", "java/lang/IllegalArgumentException"), ("java/lang/IllegalArgumentException", "java/lang/IndexOutOfBoundsException"), ("java/lang/IllegalStateException", "java/lang/IndexOutOfBoundsException"), ("java/lang/IndexOutOfBoundsException", "java/lang/IllegalArgumentException")]
/-- arrays of arrays -/
def gAA (ty : FieldType) (U : State) : Prop := (Cond.arrayOver (.array ty)).before #[] U = true
theorem gAA.moved {ty : FieldType} {u U : State} (hvm : u.vm.Alike U.vm) (h : gAA ty u) : gAA ty U := by
  obtain ⟨comp, c, k, h1, h2, h3, h4, h5⟩ := arrayOverA_spec h
  obtain ⟨k', hk', he⟩ := hvm.2.2 _ _ h3
  have hi : (U.vm.classes.findIdx? fun (x : Class) => match x.kind with | .array component _ => component == comp | _ => false) = some c := by
    rw [hvm.findIdx?_eq _ (fun _ => rfl)]
    exact h2
  have hkind : k'.kind = .array comp (.array ty) := by rw [he]; exact h4
  have f1 : U.vm.findClass (FieldType.array ty).toString = some comp := by rw [hvm.findClass]; exact h1
  have f2 : U.vm.findClass ("[" ++ (FieldType.array ty).toString) = some c := by rw [hvm.findClass]; exact h5
  unfold gAA Cond.before Cond.holds
  simp only [Cond.value]
  rw [f1, Option.bind_some]
  refine (congrArg (fun o : Option Nat => (o.bind (fun c => (U.vm.classes[c]?).map fun (k : Class) => match k.kind with | .array _ ty9 => decide (ty9 = FieldType.array ty) && decide (U.vm.findClass ("[" ++ (FieldType.array ty).toString) = some c) | _ => false) == some true)) hi).trans ?_
  simp [hk', hkind, f2]
/-- the constants of the enum: name, class -/
def gEnum (i : Nat) : String × String := match i with
  | 0 => ("OPEN", "TrunkYards$State")
  | 1 => ("HALF", "TrunkYards$State")
  | 2 => ("FIRM", "TrunkYards$State$1")
  | 3 => ("UNDER_WAY", "TrunkYards$State")
  | 4 => ("DONE", "TrunkYards$State$2")
  | _ => ("VOID", "TrunkYards$State$3")
/-- what old objects and statics hold -/
def gStat (EV : gEV) (U : State) (H : Heap) : Prop := vx_Zq Bundle.tN "UNASSIGNED_STACK" Bundle.steD (gA EV) U H ∧ vx_Zq Bundle.tN "SUPPRESSED_SENTINEL" Bundle.listD (gA EV) U H ∧
  va_Z "java/util/ArrayList" "DEFAULTCAPACITY_EMPTY_ELEMENTDATA" "[Ljava/lang/Object;" (.ref (EV.2.2.2 0)) (gA EV) U H ∧ va_T (.object "java/lang/Object") (EV.2.2.2 0) 0 (fun _ => .null) (gA EV) U H ∧ va_Mi "[Ljava/lang/Object;" (EV.2.2.2 1) U ∧
  (∀ i : Nat, i < 6 → va_Z "TrunkYards$State" (gEnum i).1 "LTrunkYards$State;" (.ref (EV.2.2.2 (10 + i))) (gA EV) U H ∧ va_O (gEnum i).2 (EV.2.2.2 (10 + i)) (gA EV) U H ∧ va_OF "java/lang/Enum" "ordinal" "I" (.int (Int32.ofNat i)) (EV.2.2.2 (10 + i)) (gA EV) U H) ∧
  (∀ i j : Nat, i < 6 → j < 6 → EV.2.2.2 (10 + i) = EV.2.2.2 (10 + j) → i = j) ∧ gAA .int U ∧ gAA .boolean U
/-- what holds of the tables and of the old heap wherever a method begins -/
def gE (EV : gEV) (U : State) : Prop := va_K EV.1 vwCl (gTys EV.2.1) U ∧ (∀ w ∈ lw_tbl, gKind w = true → va_Nw w U) ∧ (∀ C ∈ gOver, va_AO C U) ∧ (∀ q ∈ gFace, va_Fw q.1 q.2.1 q.2.2 U) ∧ (∀ q ∈ gNoCast, va_Nc q.1 q.2 U) ∧ gStat EV U U.heap
theorem gNw_warm {w : Cond} (hk : gKind w = true) {s U : State} (hW : s.WarmedH U.vm) (h : va_Nw w s) : va_Nw w U := by
  cases w <;> first | exact va_Nw.warmF hW h | exact va_Nw.warmM hW h | exact va_Nw.warmD hW h | exact va_Nw.warmC hW h | exact absurd hk (by simp [gKind])
theorem gKind_tab {w : Cond} (hk : gKind w = true) : w.onTables = true := by
  cases w <;> first | rfl | exact absurd hk (by simp [gKind])
theorem gStat.to {EV : gEV} {s U : State} {H H1 : Heap} (hvm : s.vm.Alike U.vm) (hq : ∀ a : Nat, a < H.size → ¬ gA EV a → H1[a]? = H[a]?) (h : gStat EV s H) : gStat EV U H1 :=
  ⟨vx_Zq.moved hvm (h.1.kept hq), vx_Zq.moved hvm (h.2.1.kept hq), va_Z.moved hvm (h.2.2.1.kept hq), va_T.moved hvm (h.2.2.2.1.kept hq), h.2.2.2.2.1.moved hvm,
    fun i hi => ⟨va_Z.moved hvm ((h.2.2.2.2.2.1 i hi).1.kept hq), va_O.moved hvm ((h.2.2.2.2.2.1 i hi).2.1.kept hq), va_OF.moved hvm ((h.2.2.2.2.2.1 i hi).2.2.kept hq)⟩, h.2.2.2.2.2.2.1, h.2.2.2.2.2.2.2.1.moved hvm, h.2.2.2.2.2.2.2.2.moved hvm⟩
theorem gE.warm {EV : gEV} {s U : State} (hW : s.WarmedH U.vm) (hq : ∀ a : Nat, a < s.heap.size → ¬ gA EV a → U.heap[a]? = s.heap[a]?) (h : gE EV s) : gE EV U := by
  obtain ⟨h1, h2, h3, h4, h5, h6⟩ := h
  refine ⟨va_K.moved hW.alike h1, fun w hw hk => gNw_warm hk hW (h2 w hw hk), fun C hC => (h3 C hC).moved hW.alike, fun q hq => ?_, fun q hq => (h5 q hq).moved hW.alike, h6.to hW.alike hq⟩
  have hm : ∀ z ∈ gFace, z.2.1.cls ≠ "java/lang/invoke/MethodHandle" ∧ z.2.1.cls ≠ "java/lang/invoke/VarHandle" := by decide +kernel
  exact va_Fw.moved (hm q hq) hW.alike (h4 q hq)
/-! the picture -/
def gP (EV : gEV) (M : gM) (H : Heap) : Prop := ∀ (a : Nat) (t : gTag) (e : va_E), M a = some (t, e) → va_at EV.1 vwCl (a, e) H ∧ EV.2.2.1 ≤ a
def mU (M : gM) (a : Nat) (t : gTag) (e : va_E) : gM := fun q => if q = a then some (t, e) else M q
theorem mU_s {M : gM} {a : Nat} {t : gTag} {e : va_E} : mU M a t e a = some (t, e) := by simp [mU]
theorem mU_n {M : gM} {a b : Nat} {t : gTag} {e : va_E} (h : b ≠ a) : mU M a t e b = M b := by simp [mU, h]
theorem gP.lt {EV : gEV} {M : gM} {H : Heap} (h : gP EV M H) {a : Nat} {x : gTag × va_E} (hx : M a = some x) : a < H.size := (h a x.1 x.2 hx).1.lt
theorem gP.fresh {EV : gEV} {M : gM} {H : Heap} (h : gP EV M H) : M H.size = none := by
  cases hx : M H.size with
  | none => rfl
  | some x => exact absurd (h.lt hx) (Nat.lt_irrefl _)
theorem gP.up {EV : gEV} {M : gM} {H H1 : Heap} {a : Nat} {t : gTag} {e : va_E} (h : gP EV M H) (he : va_at EV.1 vwCl (a, e) H1) (hb : EV.2.2.1 ≤ a) (oq : ∀ q : Nat, q ≠ a → q < H.size → H1[q]? = H[q]?) : gP EV (mU M a t e) H1 := by
  intro q t' e' hq
  by_cases hqa : q = a
  · subst hqa
    rw [mU_s] at hq
    cases hq
    exact ⟨he, hb⟩
  · rw [mU_n hqa] at hq
    exact ⟨(h q t' e' hq).1.kept (oq q hqa (h.lt hq)), (h q t' e' hq).2⟩
/-- changed at cells of the tags T alone, and new ones -/
def gFr (T : gTag → Prop) (M M' : gM) : Prop := ∀ (a : Nat) (t : gTag) (e : va_E), M a = some (t, e) → ¬ T t → M' a = some (t, e)
theorem gFr.rf {T : gTag → Prop} {M : gM} : gFr T M M := fun _ _ _ h _ => h
theorem gFr.trans {T : gTag → Prop} {M M1 M2 : gM} (h1 : gFr T M M1) (h2 : gFr T M1 M2) : gFr T M M2 := fun a t e h n => h2 a t e (h1 a t e h n) n
theorem gFr.mono {T S : gTag → Prop} {M M1 : gM} (h : gFr T M M1) (hs : ∀ t, T t → S t) : gFr S M M1 := fun a t e ha n => h a t e ha (fun z => n (hs t z))
theorem gFr.up {T : gTag → Prop} {M : gM} {a : Nat} {t : gTag} {e e0 : va_E} {t0 : gTag} (h : M a = some (t0, e0)) (ht : T t0) : gFr T M (mU M a t e) := by
  intro b t' e' hb hn
  by_cases hba : b = a
  · subst hba
    rw [h] at hb
    cases hb
    exact absurd ht hn
  · rw [mU_n hba]; exact hb
theorem gFr.new {T : gTag → Prop} {M : gM} {a : Nat} {t : gTag} {e : va_E} (h : M a = none) : gFr T M (mU M a t e) := by
  intro b t' e' hb hn
  by_cases hba : b = a
  · subst hba
    rw [h] at hb
    cases hb
  · rw [mU_n hba]; exact hb
/-! locals -/
def gPairs : Nat → List (Option Value) → List (Nat × Value)
  | _, [] => []
  | i, none :: l => gPairs (i + 1) l
  | i, some v :: l => (i, v) :: gPairs (i + 1) l
theorem gPairs_mem : ∀ (l : List (Option Value)) (i k : Nat) (v : Value), (k, v) ∈ gPairs i l ↔ ∃ j, k = i + j ∧ l[j]? = some (some v)
  | [], i, k, v => by simp [gPairs]
  | none :: l, i, k, v => by
    rw [gPairs, gPairs_mem l]
    constructor
    · rintro ⟨j, rfl, h⟩
      exact ⟨j + 1, by omega, by simpa using h⟩
    · rintro ⟨j, rfl, h⟩
      cases j with
      | zero => simp at h
      | succ j => exact ⟨j, by omega, by simpa using h⟩
  | some w :: l, i, k, v => by
    rw [gPairs, List.mem_cons, gPairs_mem l]
    constructor
    · rintro (h | ⟨j, rfl, h⟩)
      · cases h
        exact ⟨0, rfl, rfl⟩
      · exact ⟨j + 1, by omega, by simpa using h⟩
    · rintro ⟨j, rfl, h⟩
      cases j with
      | zero => simp at h; subst h; exact Or.inl rfl
      | succ j => exact Or.inr ⟨j, by omega, by simpa using h⟩
def gLs (la : Array Slot) (nL : Nat) (ls : List (Option Value)) : Prop := lv_has la nL (gPairs 0 ls) ∧ ∀ (k : Nat) (v : Value), ls[k]? = some (some v) → v.category = 1
theorem gLs.get {la : Array Slot} {nL : Nat} {ls : List (Option Value)} (h : gLs la nL ls) {k : Nat} {v : Value} (hk : ls[k]? = some (some v)) : la[k]? = some (.val v) :=
  h.1.2.2 (k, v) ((gPairs_mem ls 0 k v).mpr ⟨k, by omega, hk⟩)
theorem gLs.set {la la' : Array Slot} {nL : Nat} {ls : List (Option Value)} (h : gLs la nL ls) {i : Nat} {v : Value} (hv : v.category = 1) (h' : lv_has la' nL ((i, v) :: (gPairs 0 ls).filter (fun q => !(q.1 == i) && !(q.1 + 1 == i && q.2.category == 2)))) : gLs la' nL (ls.set i (some v)) := by
  refine ⟨⟨h'.1, h'.2.1, fun q hq => ?_⟩, fun k w hk => ?_⟩
  · obtain ⟨j, hj, hl⟩ := (gPairs_mem _ 0 q.1 q.2).mp hq
    have hjk : q.1 = j := by omega
    by_cases hji : j = i
    · subst hji
      have hlt : j < (ls.set j (some v)).length := (List.getElem?_eq_some_iff.mp hl).1
      rw [List.getElem?_set_self (by simpa using hlt)] at hl
      have hw : v = q.2 := by simpa using hl
      have := h'.2.2 (j, v) List.mem_cons_self
      rw [hjk, ← hw]
      exact this
    · rw [List.getElem?_set_ne (fun z => hji z.symm)] at hl
      refine h'.2.2 q (List.mem_cons_of_mem _ (List.mem_filter.mpr ⟨(gPairs_mem ls 0 q.1 q.2).mpr ⟨j, by omega, hl⟩, ?_⟩))
      have hc := h.2 j q.2 hl
      simp [hjk, hji, hc]
  · by_cases hki : k = i
    · subst hki
      have hlt : k < (ls.set k (some v)).length := (List.getElem?_eq_some_iff.mp hk).1
      rw [List.getElem?_set_self (by simpa using hlt)] at hk
      have hw : v = w := by simpa using hk
      rw [← hw]; exact hv
    · rw [List.getElem?_set_ne (fun z => hki z.symm)] at hk
      exact h.2 k w hk
/-! what a method is, and where it stands -/
/-- code, class, locals, answer, table of instructions, name -/
abbrev gS : Type := ByteArray × String × Nat × Option FieldType × (Nat → Option (Instr × Nat)) × String
abbrev gZ : Type := Program × Launch × Env × Room × State × MethodId × Array Value × List Frame × Method × Code
def gW (z : gZ) (H : Heap) (locs : List Loc) (k n : Nat) (Q : State → Prop) (pc : Nat) (la : Array Slot) (st : List Value) : Prop :=
  W z.1 z.2.1 z.2.2.1 z.2.2.2.1 z.2.2.2.2.1 z.2.2.2.2.2.1 z.2.2.2.2.2.2.1 z.2.2.2.2.2.2.2.1 z.2.2.2.2.2.2.2.2.1 z.2.2.2.2.2.2.2.2.2 H locs k n Q (F0 z.2.2.2.2.2.1 pc la st)
/-- the judgement -/
def gG (z : gZ) (S : gS) (EV : gEV) (Q : State → Prop) (M : gM) (k n : Nat) (pc : Nat) (ls : List (Option Value)) (st : List Value) : Prop :=
  ∀ (H : Heap) (locs : List Loc) (la : Array Slot), gLs la S.2.2.1 ls → gP EV M H → va_S (gA EV) z.2.2.2.2.1.heap H locs → gW z H locs k n Q pc la st
/-- what a method's body knows of where it stands -/
def CX (z : gZ) (S : gS) (EV : gEV) : Prop :=
  z.1.tables.exec = Jvm.exec ∧ z.2.2.2.2.2.2.2.2.2.code = S.1 ∧ z.2.2.2.2.2.2.2.2.1.sig.returnType = S.2.2.2.1 ∧ z.2.2.2.2.2.2.2.2.1.locks = false ∧ z.2.2.2.2.2.2.2.2.2.maxLocals = S.2.2.1 ∧
  z.2.2.2.2.1.vm.findClass S.2.1 = some z.2.2.2.2.2.1.cls ∧ (∀ w ∈ lw_all, w.before z.2.2.2.2.2.2.1 z.2.2.2.2.1 = true) ∧ gE EV z.2.2.2.2.1 ∧ EV.2.2.1 ≤ z.2.2.2.2.1.heap.size ∧ tkAll S.1 S.2.2.2.2.1 ∧ z.2.2.2.2.2.2.2.2.1.name = S.2.2.2.2.2 ∧ z.2.1.stackTraces = false
section GR
variable {p : Program} {l : Launch} {e : Env} {R : Room} {s : State} {m : MethodId} {args : Array Value} {below : List Frame} {meth : Method} {c : Code} {Q : State → Prop} {EV : gEV} {M : gM} {k n pc : Nat} {ls : List (Option Value)} {st : List Value}
variable {cc : ByteArray} {own : String} {nL : Nat} {ret : Option FieldType} {tb : Nat → Option (Instr × Nat)} {nm : String}
/-- instructions on locals and stack alone -/
def gLdI (ls : List (Option Value)) (k : Nat) : Option Value := match ls[k]? with
  | some (some (.int x)) => some (.int x)
  | _ => none
def gLdA (ls : List (Option Value)) (k : Nat) : Option Value := match ls[k]? with
  | some (some (.ref x)) => some (.ref x)
  | some (some .null) => some .null
  | _ => none
def gC1 : Value → Bool
  | .int _ => true
  | .ref _ => true
  | .null => true
  | _ => false
theorem gC1_c {v : Value} (h : gC1 v = true) : v.category = 1 := by cases v <;> first | rfl | (simp [gC1] at h)
abbrev gO : Type := Option (Nat × List (Option Value) × List Value)
def gLd (o : Option Value) (pc : Nat) (ls : List (Option Value)) (st : List Value) : gO := match o with
  | some v => some (pc, ls, v :: st)
  | none => none
def gJ (pc : Nat) (off : Int) (ls : List (Option Value)) (st : List Value) : gO := match (pc : Int) + off with
  | .ofNat t => some (t, ls, st)
  | .negSucc _ => none
def gOp (nL : Nat) (i : Instr) (len pc : Nat) (ls : List (Option Value)) (st : List Value) : gO :=
  match i, len, st with
  | .iconst x, 1, st => some (pc + 1, ls, .int (Int32.ofInt x) :: st)
  | .bipush x, 2, st => cond (decide (-128 ≤ x) && decide (x ≤ 127)) (some (pc + 2, ls, .int (Int32.ofInt x) :: st)) none
  | .sipush x, 3, st => cond (decide (-32768 ≤ x) && decide (x ≤ 32767)) (some (pc + 3, ls, .int (Int32.ofInt x) :: st)) none
  | .aconst_null, 1, st => some (pc + 1, ls, .null :: st)
  | .iload_n j, 1, st => gLd (gLdI ls j) (pc + 1) ls st
  | .iload j, 2, st => gLd (gLdI ls j) (pc + 2) ls st
  | .aload_n j, 1, st => gLd (gLdA ls j) (pc + 1) ls st
  | .aload j, 2, st => gLd (gLdA ls j) (pc + 2) ls st
  | .istore_n j, 1, .int x :: st => cond (Nat.blt j nL) (some (pc + 1, ls.set j (some (.int x)), st)) none
  | .istore j, 2, .int x :: st => cond (Nat.blt j nL) (some (pc + 2, ls.set j (some (.int x)), st)) none
  | .astore_n j, 1, .ref x :: st => cond (Nat.blt j nL) (some (pc + 1, ls.set j (some (.ref x)), st)) none
  | .astore j, 2, .ref x :: st => cond (Nat.blt j nL) (some (pc + 2, ls.set j (some (.ref x)), st)) none
  | .astore_n j, 1, .null :: st => cond (Nat.blt j nL) (some (pc + 1, ls.set j (some .null), st)) none
  | .astore j, 2, .null :: st => cond (Nat.blt j nL) (some (pc + 2, ls.set j (some .null), st)) none
  | .iinc j x, 3, st => match ls[j]? with
    | some (some (.int y)) => cond (Nat.blt j nL) (some (pc + 3, ls.set j (some (.int (y + Int32.ofInt x))), st)) none
    | _ => none
  | .iadd, 1, .int y :: .int x :: st => some (pc + 1, ls, .int (x + y) :: st)
  | .isub, 1, .int y :: .int x :: st => some (pc + 1, ls, .int (x - y) :: st)
  | .imul, 1, .int y :: .int x :: st => some (pc + 1, ls, .int (x * y) :: st)
  | .iand, 1, .int y :: .int x :: st => some (pc + 1, ls, .int (x &&& y) :: st)
  | .ior, 1, .int y :: .int x :: st => some (pc + 1, ls, .int (x ||| y) :: st)
  | .ixor, 1, .int y :: .int x :: st => some (pc + 1, ls, .int (x ^^^ y) :: st)
  | .ineg, 1, .int x :: st => some (pc + 1, ls, .int (-x) :: st)
  | .ishl, 1, .int y :: .int x :: st => some (pc + 1, ls, .int (x <<< (y &&& 31)) :: st)
  | .ishr, 1, .int y :: .int x :: st => some (pc + 1, ls, .int (x >>> (y &&& 31)) :: st)
  | .iushr, 1, .int y :: .int x :: st => some (pc + 1, ls, .int (x.toUInt32 >>> (y.toUInt32 &&& Int32.toUInt32 31)).toInt32 :: st)
  | .i2l, 1, .int x :: st => some (pc + 1, ls, .long x.toInt64 :: st)
  | .dup, 1, v :: st => cond (gC1 v) (some (pc + 1, ls, v :: v :: st)) none
  | .pop, 1, v :: st => cond (gC1 v) (some (pc + 1, ls, st)) none
  | .dup_x1, 1, v :: w :: st => cond (gC1 v && gC1 w) (some (pc + 1, ls, v :: w :: v :: st)) none
  | .dup_x2, 1, v :: w :: u :: st => cond (gC1 v && (gC1 w && gC1 u)) (some (pc + 1, ls, v :: w :: u :: v :: st)) none
  | .dup2, 1, v :: w :: st => cond (gC1 v && gC1 w) (some (pc + 1, ls, v :: w :: v :: w :: st)) none
  | .goto off, 3, st => gJ pc off ls st
  | .ifnonnull off, 3, .ref _ :: st => gJ pc off ls st
  | .ifnonnull _, 3, .null :: st => some (pc + 3, ls, st)
  | .ifnull off, 3, .null :: st => gJ pc off ls st
  | .ifnull _, 3, .ref _ :: st => some (pc + 3, ls, st)
  | .checkcast _, 3, .null :: st => some (pc + 3, ls, .null :: st)
  | .instanceof _, 3, .null :: st => some (pc + 3, ls, .int 0 :: st)
  | _, _, _ => none
def gStep (nL : Nat) (tb : Nat → Option (Instr × Nat)) (pc : Nat) (ls : List (Option Value)) (st : List Value) : gO := match tb pc with
  | some (i, len) => gOp nL i len pc ls st
  | none => none
def gRun (nL : Nat) (tb : Nat → Option (Instr × Nat)) : Nat → Nat → List (Option Value) → List Value → gO
  | 0, pc, ls, st => some (pc, ls, st)
  | j + 1, pc, ls, st => match gStep nL tb pc ls st with
    | some (pc1, ls1, st1) => gRun nL tb j pc1 ls1 st1
    | none => none
theorem gLdI_s {ls : List (Option Value)} {j : Nat} {v : Value} (h : gLdI ls j = some v) : ∃ x, v = .int x ∧ ls[j]? = some (some (.int x)) := by
  unfold gLdI at h
  split at h
  · cases h
    exact ⟨_, rfl, by assumption⟩
  · cases h
theorem gLdA_s {ls : List (Option Value)} {j : Nat} {v : Value} (h : gLdA ls j = some v) : (∃ x, v = .ref x ∧ ls[j]? = some (some (.ref x))) ∨ (v = .null ∧ ls[j]? = some (some .null)) := by
  unfold gLdA at h
  split at h
  · cases h
    exact Or.inl ⟨_, rfl, by assumption⟩
  · cases h
    exact Or.inr ⟨rfl, by assumption⟩
  · cases h
theorem gJ_s {pc : Nat} {off : Int} {ls ls1 : List (Option Value)} {st st1 : List Value} {pc1 : Nat} (h : gJ pc off ls st = some (pc1, ls1, st1)) : (pc : Int) + off = (pc1 : Int) ∧ ls = ls1 ∧ st = st1 := by
  unfold gJ at h
  split at h
  · rename_i t ht
    cases h
    exact ⟨ht, rfl, rfl⟩
  · cases h
theorem gCond_s {b : Bool} {x : Nat × List (Option Value) × List Value} {o : gO} (h : cond b o none = some x) : b = true ∧ o = some x := by
  cases b
  · cases h
  · exact ⟨rfl, h⟩
theorem gB8 {x : Int} (h : (decide (-128 ≤ x) && decide (x ≤ 127)) = true) : (Int8.ofInt x).toInt32 = Int32.ofInt x := by
  simp only [Bool.and_eq_true, decide_eq_true_eq] at h
  apply Int32.toInt_inj.mp
  rw [Int8.toInt_toInt32, Int8.toInt_ofInt_of_le (by omega) (by omega), Int32.toInt_ofInt_of_le (by omega) (by omega)]
theorem gB16 {x : Int} (h : (decide (-32768 ≤ x) && decide (x ≤ 32767)) = true) : (Int16.ofInt x).toInt32 = Int32.ofInt x := by
  simp only [Bool.and_eq_true, decide_eq_true_eq] at h
  apply Int32.toInt_inj.mp
  rw [Int16.toInt_toInt32, Int16.toInt_ofInt_of_le (by omega) (by omega), Int32.toInt_ofInt_of_le (by omega) (by omega)]
set_option maxHeartbeats 4000000 in
theorem gOp_s {H : Heap} {locs : List Loc} {la : Array Slot} (hx : p.tables.exec = Jvm.exec) (hb : c.code = cc) {i : Instr} {len : Nat} (hd : decode cc pc = .ok (i, len)) {pc1 : Nat} {ls1 : List (Option Value)} {st1 : List Value} (h : gOp nL i len pc ls st = some (pc1, ls1, st1)) (hl : gLs la nL ls)
    (kk : ∀ la' : Array Slot, gLs la' nL ls1 → W p l e R s m args below meth c H locs k n Q (F0 m pc1 la' st1)) : W p l e R s m args below meth c H locs k n Q (F0 m pc la st) := by
  unfold gOp at h
  split at h
  · cases h; exact lv_iconst hx hb hd rfl (kk la hl)
  · obtain ⟨h0, h⟩ := gCond_s h; cases h; exact lv_bipush hx hb hd (gB8 h0) (kk la hl)
  · obtain ⟨h0, h⟩ := gCond_s h; cases h; exact lv_sipush hx hb hd (gB16 h0) (kk la hl)
  · cases h; exact lv_null hx hb hd (kk la hl)
  · unfold gLd at h
    split at h
    · rename_i v hv
      cases h
      obtain ⟨x, rfl, hx1⟩ := gLdI_s hv
      exact lv_iload_n hx hb hd rfl (hl.get hx1) (kk la hl)
    · cases h
  · unfold gLd at h
    split at h
    · rename_i v hv
      cases h
      obtain ⟨x, rfl, hx1⟩ := gLdI_s hv
      exact lv_iload hx hb hd (hl.get hx1) (kk la hl)
    · cases h
  · unfold gLd at h
    split at h
    · rename_i v hv
      cases h
      rcases gLdA_s hv with ⟨x, rfl, hx1⟩ | ⟨rfl, hx1⟩
      · exact lv_aload_n hx hb hd rfl (hl.get hx1) (kk la hl)
      · exact lv_aload_nN hx hb hd rfl (hl.get hx1) (kk la hl)
    · cases h
  · unfold gLd at h
    split at h
    · rename_i v hv
      cases h
      rcases gLdA_s hv with ⟨x, rfl, hx1⟩ | ⟨rfl, hx1⟩
      · exact lv_aload hx hb hd (hl.get hx1) (kk la hl)
      · exact lv_aloadN hx hb hd (hl.get hx1) (kk la hl)
    · cases h
  · obtain ⟨h0, h⟩ := gCond_s h; cases h; exact lv_istore_n hx hb hd rfl hl.1 (Nat.blt_eq.mp h0) rfl (fun la' h' => kk la' (hl.set rfl h'))
  · obtain ⟨h0, h⟩ := gCond_s h; cases h; exact lv_istore hx hb hd hl.1 (Nat.blt_eq.mp h0) rfl (fun la' h' => kk la' (hl.set rfl h'))
  · obtain ⟨h0, h⟩ := gCond_s h; cases h; exact lv_astore_n hx hb hd rfl hl.1 (Nat.blt_eq.mp h0) rfl (fun la' h' => kk la' (hl.set rfl h'))
  · obtain ⟨h0, h⟩ := gCond_s h; cases h; exact lv_astore hx hb hd hl.1 (Nat.blt_eq.mp h0) rfl (fun la' h' => kk la' (hl.set rfl h'))
  · obtain ⟨h0, h⟩ := gCond_s h; cases h; exact lv_astore_nN hx hb hd rfl hl.1 (Nat.blt_eq.mp h0) rfl (fun la' h' => kk la' (hl.set rfl h'))
  · obtain ⟨h0, h⟩ := gCond_s h; cases h; exact lv_astoreN hx hb hd hl.1 (Nat.blt_eq.mp h0) rfl (fun la' h' => kk la' (hl.set rfl h'))
  · split at h
    · rename_i j x st y hy
      obtain ⟨h0, h⟩ := gCond_s h
      cases h
      obtain ⟨q, hq⟩ := List.getElem?_of_mem ((gPairs_mem ls 0 j (.int y)).mpr ⟨j, by omega, hy⟩)
      exact lv_iinc hx hb hd hl.1 hq rfl (Nat.blt_eq.mp h0) rfl (fun la' h' => kk la' (hl.set rfl h'))
    · cases h
  · cases h; exact lv_iadd hx hb hd (kk la hl)
  · cases h; exact lv_isub hx hb hd (kk la hl)
  · cases h; exact lv_imul hx hb hd (kk la hl)
  · cases h; exact lv_iand hx hb hd (kk la hl)
  · cases h; exact lv_ior hx hb hd (kk la hl)
  · cases h; exact lv_ixor hx hb hd (kk la hl)
  · cases h; exact lv_ineg hx hb hd (kk la hl)
  · cases h; exact lv_ishl hx hb hd (kk la hl)
  · cases h; exact lv_ishr hx hb hd (kk la hl)
  · cases h; exact lv_iushr hx hb hd rfl (kk la hl)
  · cases h; exact lv_i2l hx hb hd rfl (kk la hl)
  · obtain ⟨h0, h⟩ := gCond_s h; cases h; exact lv_dup hx hb hd (gC1_c h0) (kk la hl)
  · obtain ⟨h0, h⟩ := gCond_s h; cases h; exact lv_pop hx hb hd (gC1_c h0) (kk la hl)
  · obtain ⟨h0, h⟩ := gCond_s h; cases h; rw [Bool.and_eq_true] at h0; exact lv_dup_x1 hx hb hd (gC1_c h0.1) (gC1_c h0.2) (kk la hl)
  · obtain ⟨h0, h⟩ := gCond_s h; cases h; rw [Bool.and_eq_true, Bool.and_eq_true] at h0; exact lv_dup_x2 hx hb hd (gC1_c h0.1) (gC1_c h0.2.1) (gC1_c h0.2.2) (kk la hl)
  · obtain ⟨h0, h⟩ := gCond_s h; cases h; rw [Bool.and_eq_true] at h0; exact lv_dup2_11 hx hb hd (gC1_c h0.1) (gC1_c h0.2) (kk la hl)
  · obtain ⟨h1, rfl, rfl⟩ := gJ_s h; exact lv_goto hx hb hd h1 (kk la hl)
  · obtain ⟨h1, rfl, rfl⟩ := gJ_s h; exact lv_ifnonnull hx hb hd h1 (kk la hl)
  · cases h; exact lv_ifnonnullN hx hb hd (kk la hl)
  · obtain ⟨h1, rfl, rfl⟩ := gJ_s h; exact lv_ifnullN hx hb hd h1 (kk la hl)
  · cases h; exact lv_ifnull hx hb hd (kk la hl)
  · cases h; exact lv_castN hx hb hd (kk la hl)
  · cases h; exact lv_instN hx hb hd (kk la hl)
  · cases h
theorem gRun_s {H : Heap} {locs : List Loc} (hx : p.tables.exec = Jvm.exec) (hb : c.code = cc) (ht : tkAll cc tb) : ∀ (j : Nat) {pc pc1 : Nat} {ls ls1 : List (Option Value)} {st st1 : List Value} (la : Array Slot), gRun nL tb j pc ls st = some (pc1, ls1, st1) → gLs la nL ls →
    (∀ la' : Array Slot, gLs la' nL ls1 → W p l e R s m args below meth c H locs k n Q (F0 m pc1 la' st1)) → W p l e R s m args below meth c H locs k n Q (F0 m pc la st) := by
  intro j
  induction j with
  | zero =>
    intro pc pc1 ls ls1 st st1 la h hl kk
    cases h
    exact kk la hl
  | succ j ih =>
    intro pc pc1 ls ls1 st st1 la h hl kk
    rw [gRun] at h
    split at h
    · rename_i pc2 ls2 st2 h2
      unfold gStep at h2
      split at h2
      · rename_i i len hi
        exact gOp_s hx hb (ht pc _ hi) h2 hl (fun la' hl' => ih la' h hl' kk)
      · cases h2
    · cases h
variable {z : gZ} {S : gS}
/-- j instructions on locals and stack alone -/
theorem g_run (X : CX z S EV) (j : Nat) {pc1 : Nat} {ls1 : List (Option Value)} {st1 : List Value} (h : gRun S.2.2.1 S.2.2.2.2.1 j pc ls st = some (pc1, ls1, st1)) (kk : gG z S EV Q M k n pc1 ls1 st1) : gG z S EV Q M k n pc ls st := by
  intro H locs la hl hP hS
  exact gRun_s X.1 X.2.1 X.2.2.2.2.2.2.2.2.2.1 j la h hl (fun la' hl' => kk H locs la' hl' hP hS)
theorem g_wide {k' n' : Nat} (hk : k ≤ k') (hn : n ≤ n') (kk : gG z S EV Q M k' n' pc ls st) : gG z S EV Q M k n pc ls st :=
  fun H locs la hl hP hS => W.widen hk hn (kk H locs la hl hP hS)
end GR
