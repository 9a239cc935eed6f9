/-! THE SYSTEM, more rows: local cells, what is taken in, lists that grow, constants of the enum -/
section
variable {EV : gEV} {M M' : gM} {A A' : gAd} {U U' : gV} {T : gTag → Prop}
/-- tags at which nothing of the system lives -/
def tDead (EV : gEV) (A : gAd) (U : gV) : gTag → Prop := fun t => sC EV A U t = none ∧ (∀ i, alL U i → t ≠ (30, i) ∧ ∀ p, t ≠ (1000 + p, i)) ∧ ∀ i, llL U i → t ≠ (24, i) ∧ ∀ p, p < 6 → t ≠ (25, 8 * i + p)
theorem TD.dead (h : TD EV M A U) (hF : gFr T M M') (hT : ∀ t, T t → tDead EV A U t) : TD EV M' A U := by
  refine ⟨fun t e he => hF _ _ _ (h.1 t e he) (fun z => ?_), fun i hi => (h.2.1 i hi).fr hF (fun z => ((hT _ z).2.1 i hi).1 rfl) (fun p z => ((hT _ z).2.1 i hi).2 p rfl), fun i hi => (h.2.2 i hi).fr hF (fun z => ((hT _ z).2.2 i hi).1 rfl) (fun p hp z => ((hT _ z).2.2 i hi).2 p hp rfl)⟩
  have h1 := (hT _ z).1
  rw [h1] at he
  cases he
theorem sC_no {t : gTag} (h : t.1 < 10 ∨ 23 ≤ t.1) : sC EV A U t = none := by
  cases he : sC EV A U t with
  | none => rfl
  | some e =>
    have := sC_lt he
    omega
theorem tDead_loc {t : gTag} (h : 70 ≤ t.1 ∧ t.1 < 100) : tDead EV A U t := by
  refine ⟨sC_no (by omega), fun i _ => ⟨fun e => ?_, fun p e => ?_⟩, fun i _ => ⟨fun e => ?_, fun p _ e => ?_⟩⟩
  all_goals
    have h1 := congrArg Prod.fst e
    simp at h1
    omega
theorem tDead_c {c i : Nat} (hc : 11 ≤ c ∧ c ≤ 16) (h : sC EV A U (c, i) = none) : tDead EV A U (c, i) := by
  refine ⟨h, fun j _ => ⟨fun e => ?_, fun p e => ?_⟩, fun j _ => ⟨fun e => ?_, fun p _ e => ?_⟩⟩
  all_goals
    have h1 := congrArg Prod.fst e
    simp at h1
    omega
theorem tDead_al {i : Nat} (h : ¬ alL U i) : tDead EV A U (30, i) := by
  refine ⟨sC_no (by simp), fun j hj => ⟨fun e => ?_, fun p e => ?_⟩, fun j _ => ⟨fun e => ?_, fun p _ e => ?_⟩⟩
  · have h1 := congrArg Prod.snd e
    simp at h1
    subst h1
    exact h hj
  all_goals
    have h1 := congrArg Prod.fst e
    simp at h1
    try omega
theorem tDead_ar {p i : Nat} (h : ¬ alL U i) : tDead EV A U (1000 + p, i) := by
  refine ⟨sC_no (Or.inr (by show 23 ≤ 1000 + p; omega)), fun j hj => ⟨fun e => ?_, fun p e => ?_⟩, fun j _ => ⟨fun e => ?_, fun p _ e => ?_⟩⟩
  · have h1 := congrArg Prod.fst e
    simp at h1
    omega
  · have h1 := congrArg Prod.snd e
    simp at h1
    subst h1
    exact h hj
  all_goals
    have h1 := congrArg Prod.fst e
    simp at h1
    omega
theorem tDead_ll {i : Nat} (h : ¬ llL U i) : tDead EV A U (24, i) := by
  refine ⟨sC_no (by simp), fun j hj => ⟨fun e => ?_, fun p e => ?_⟩, fun j hj => ⟨fun e => ?_, fun p _ e => ?_⟩⟩
  · simp at e
  · have h1 := congrArg Prod.fst e
    simp at h1
    omega
  · have h1 := congrArg Prod.snd e
    simp at h1
    subst h1
    exact h hj
  · simp at e
theorem tDead_nd {i p : Nat} (hp : p < 8) (h : ¬ llL U i) : tDead EV A U (25, 8 * i + p) := by
  refine ⟨sC_no (by simp), fun j hj => ⟨fun e => ?_, fun p e => ?_⟩, fun j hj => ⟨fun e => ?_, fun p' hp' e => ?_⟩⟩
  · simp at e
  · have h1 := congrArg Prod.fst e
    simp at h1
    omega
  · simp at e
  · have h1 := congrArg Prod.snd e
    simp at h1
    have : i = j := by omega
    subst this
    exact h hj
theorem TC.ofJ {l : Launch} {y : MethodName} {bytes : ByteArray} {maxL d mc ms : Nat} {ret : Option FieldType} {K : gM → Prop} {As : List Value} {L : gLL} {P : Option Value → gLL → Prop} (h : JC l y bytes maxL ret d mc ms EV K T As L P) (hK : ∀ M, TD EV M A U → gL M L → K M) (hT : ∀ t, T t → tDead EV A U t) :
    TC l y bytes maxL ret d mc ms EV T As A U L (fun w A9 U9 L9 => P w L9 ∧ A9 = A ∧ U9 = U) rNo :=
  fun M hD hL => (h M (hK M hD hL) hL).mono (fun _ _ ⟨L', hP, hL', hF⟩ => ⟨A, U, L', ⟨hP, rfl, rfl⟩, hD.dead hF hT, hL', hF⟩) gNo.x
theorem TC.mono {l : Launch} {y : MethodName} {bytes : ByteArray} {maxL d mc ms : Nat} {ret : Option FieldType} {As : List Value} {L : gLL} {R R' : gR} {RX RX' : String → Prop} {T' : gTag → Prop} (h : TC l y bytes maxL ret d mc ms EV T As A U L R RX) (hT : ∀ t, T t → T' t) (hR : ∀ v A9 U9 L9, R v A9 U9 L9 → R' v A9 U9 L9) (hX : ∀ E, RX E → RX' E) : TC l y bytes maxL ret d mc ms EV T' As A U L R' RX' :=
  fun M hD hL => (h M hD hL).mono (fun v M' ⟨A9, U9, L9, h1, h2, h3, h4⟩ => ⟨A9, U9, L9, hR _ _ _ _ h1, h2, h3, h4.mono hT⟩) (fun E M' ⟨h1, h2, h3⟩ => ⟨hX E h1, h2, h3.mono hT⟩)
/-- one more address -/
def aS (A : gAd) (c i q : Nat) : gAd := fun a b => cond (Nat.beq a c && Nat.beq b i) q (A a b)
theorem aS_s {c i q : Nat} : aS A c i q c i = q := by simp [aS]
theorem aS_n {c i q a b : Nat} (h : a ≠ c ∨ b ≠ i) : aS A c i q a b = A a b := by
  unfold aS
  have : (Nat.beq a c && Nat.beq b i) = false := by
    rcases h with h | h
    · rw [show Nat.beq a c = false by cases hb : Nat.beq a c; rfl; exact absurd (Nat.eq_of_beq_eq_true hb) h]; rfl
    · rw [show Nat.beq b i = false by cases hb : Nat.beq b i; rfl; exact absurd (Nat.eq_of_beq_eq_true hb) h]; exact Bool.and_false _
  rw [this]
  rfl
/-- things are taken in -/
theorem TD.take (h : TD EV M A U) (h1 : ∀ t e, sC EV A' U' t = some e → sC EV A U t = some e ∧ A' t.1 t.2 = A t.1 t.2 ∨ M (A' t.1 t.2) = some (t, e))
    (h2 : ∀ i, alL U' i → (alL U i ∧ A' 30 i = A 30 i ∧ alN U' i = alN U i ∧ ∀ j : Nat, (j : Int) < alN U i → alF A' U' i j = alF A U i j) ∨ gAL EV M i (A' 30 i) (alN U' i).toNat (alF A' U' i))
    (h3 : ∀ i, llL U' i → (llL U i ∧ A' 24 i = A 24 i ∧ llN U' i = llN U i ∧ ∀ j : Nat, (j : Int) < llN U i → llF A' U' i j = llF A U i j) ∨ gLk M i (A' 24 i) (llN U' i).toNat (llF A' U' i)) : TD EV M A' U' := by
  refine ⟨fun t e he => ?_, fun i hi => ?_, fun i hi => ?_⟩
  · rcases h1 t e he with ⟨g1, g2⟩ | g
    · rw [g2]
      exact h.1 t e g1
    · exact g
  · rcases h2 i hi with ⟨g1, g2, g3, g4⟩ | g
    · rw [g2, g3]
      exact (h.2.1 i g1).cf (fun j hj => g4 j (by omega))
    · exact g
  · rcases h3 i hi with ⟨g1, g2, g3, g4⟩ | g
    · rw [g2, g3]
      exact (h.2.2 i g1).cf (fun j hj => g4 j (by omega))
    · exact g
end
section GT
variable {z : gZ} {S : gS} {EV : gEV} {Q : State → Prop} {M0 : gM} {T T' : gTag → Prop} {A A' : gAd} {U U' : gV} {L L' Lc Lr : gLL} {k n pc idx : Nat} {ls : List (Option Value)} {st rest As : List Value} {mc ms d : Nat} {R : gR} {RX : String → Prop}
/-- another account of the same picture -/
theorem t_take (h : ∀ M, TD EV M A U → gL M L → TD EV M A' U' ∧ gL M L') (kk : gTd z S EV Q T M0 A' U' L' k n pc ls st) : gTd z S EV Q T M0 A U L k n pc ls st :=
  fun M h1 h2 h3 => kk M (h M h1 h2).1 (h M h1 h2).2 h3
theorem t_U (h : U = U') (kk : gTd z S EV Q T M0 A U' L k n pc ls st) : gTd z S EV Q T M0 A U L k n pc ls st := by
  subst h; exact kk
theorem t_new (X : CX z S EV) (t : gTag) {ci N : Nat} {fs : List Value} (hT : S.2.2.2.2.1 pc = some (.new idx, 3)) (F : gNew S.2.1 idx ci N fs) (hc : k + 1 ≤ z.2.2.2.1.cells) (hs : n + N ≤ z.2.2.2.1.slots)
    (kk : ∀ q : Nat, gTd z S EV Q T M0 A U (L ++ [(q, t, .inr (ci, fs))]) (k + 1) (n + N) (pc + 3) ls (.ref q :: st)) : gTd z S EV Q T M0 A U L k n pc ls st :=
  fun _ h1 h2 h3 => g_new X t hT F hc hs (fun q hq => kk q _ (h1.loc (gFr.new hq : gFr tF _ _) tF_loc) (h2.new hq) (h3.trans (gFr.new hq)))
theorem t_newI (X : CX z S EV) (t : gTag) {x : Int32} (N : Nat) (hT : S.2.2.2.2.1 pc = some (.newarray .int, 2)) (hx : ¬ x < 0) (hN : x.toNatClampNeg = N) (hby : N ≤ 100000) (hc : k + 1 ≤ z.2.2.2.1.cells) (hs : n + N ≤ z.2.2.2.1.slots)
    (kk : ∀ q : Nat, gTd z S EV Q T M0 A U (L ++ [(q, t, .inl (EV.2.1 0, N, .inl (fun _ => 0)))]) (k + 1) (n + N) (pc + 2) ls (.ref q :: st)) : gTd z S EV Q T M0 A U L k n pc ls (.int x :: st) :=
  fun _ h1 h2 h3 => g_newI X t N hT hx hN hby hc hs (fun q hq => kk q _ (h1.loc (gFr.new hq : gFr tF _ _) tF_loc) (h2.new hq) (h3.trans (gFr.new hq)))
theorem t_lget (X : CX z S EV) (i : Nat) {ci j kind a : Nat} {ty : FieldType} {t : gTag} {fs : List Value} {v : Value} (hT : S.2.2.2.2.1 pc = some (.getfield idx, 3)) (F : gFld S.2.1 idx ci j ty kind) (hL : L[i]? = some (a, t, .inr (ci, fs))) (hv : fs[j]? = some v)
    (kk : gTd z S EV Q T M0 A U L k n (pc + 3) ls (v :: st)) : gTd z S EV Q T M0 A U L k n pc ls (.ref a :: st) :=
  fun M h1 h2 h3 => g_get X hT F (h2.at hL) hv (kk M h1 h2 h3)
theorem t_lput (X : CX z S EV) (i : Nat) {ci j a : Nat} {ty : FieldType} {t : gTag} {fs : List Value} {v : Value} (hT : S.2.2.2.2.1 pc = some (.putfield idx, 3)) (F : gFld S.2.1 idx ci j ty 0) (hL : L[i]? = some (a, t, .inr (ci, fs))) (hd : gDp L) (hTt : T t) (hD : tDead EV A U t) (hn : narrow ty v = v) (hf : fits ty v = true) (hj : j < fs.length) (hL' : L.set i (a, t, .inr (ci, fs.set j v)) = L')
    (kk : gTd z S EV Q T M0 A U L' k n (pc + 3) ls st) : gTd z S EV Q T M0 A U L k n pc ls (v :: .ref a :: st) := by
  intro M h1 h2 h3
  subst hL'
  exact g_put X hT F (h2.at hL) hn hf hj rfl (kk _ (h1.dead (gFr.up (h2.at hL) rfl : gFr (tO t) M _) (fun _ e => e ▸ hD)) (h2.put hd hL) (h3.upT (h2.at hL) hTt))
theorem t_lputF (X : CX z S EV) (i : Nat) {ci j a : Nat} {ty : FieldType} {t : gTag} {fs : List Value} {v : Value} (hT : S.2.2.2.2.1 pc = some (.putfield idx, 3)) (hin : S.2.2.2.2.2 = "<init>") (F : gFld S.2.1 idx ci j ty 1) (hL : L[i]? = some (a, t, .inr (ci, fs))) (hd : gDp L) (hTt : T t) (hD : tDead EV A U t) (hn : narrow ty v = v) (hf : fits ty v = true) (hj : j < fs.length) (hL' : L.set i (a, t, .inr (ci, fs.set j v)) = L')
    (kk : gTd z S EV Q T M0 A U L' k n (pc + 3) ls st) : gTd z S EV Q T M0 A U L k n pc ls (v :: .ref a :: st) := by
  intro M h1 h2 h3
  subst hL'
  exact g_putF X hT hin F (h2.at hL) hn hf hj rfl (kk _ (h1.dead (gFr.up (h2.at hL) rfl : gFr (tO t) M _) (fun _ e => e ▸ hD)) (h2.put hd hL) (h3.upT (h2.at hL) hTt))
theorem t_oinit (X : CX z S EV) {b : Nat} (hT : S.2.2.2.2.1 pc = some (.invokespecial idx, 3)) (hl0 : Cond.methodLink S.2.1 idx objectInit ∈ lw_all) (hf : 1 ≤ z.2.2.2.1.frames ∧ 64 ≤ z.2.2.2.1.locals) (hw : (rest.map fun v => v.category).sum ≤ 8) (kk : gTd z S EV Q T M0 A U L k n (pc + 3) ls rest) : gTd z S EV Q T M0 A U L k n pc ls (.ref b :: rest) :=
  fun M h1 h2 h3 => g_oinit X hT hl0 hf hw (kk M h1 h2 h3)
/-- a constant of the enum -/
theorem t_enum (X : CX z S EV) (i : Nat) (hi : i < 6) (hT : S.2.2.2.2.1 pc = some (.getstatic idx, 3)) (hl0 : Cond.fieldLink S.2.1 idx "TrunkYards$State" (gEnum i).1 "LTrunkYards$State;" ∈ lw_all)
    (kk : gTd z S EV Q T M0 A U L k n (pc + 3) ls (.ref (EV.2.2.2 (10 + i)) :: st)) : gTd z S EV Q T M0 A U L k n pc ls st :=
  fun M h1 h2 h3 => g_gets X hT (X.stat.2.2.2.2.2.1 i hi).1 hl0 (Or.inl rfl) (kk M h1 h2 h3)
/-- two constants compared -/
theorem t_ecmp (X : CX z S EV) {i j : Nat} (hi : i < 6) (hj : j < 6) {off : Int} {tgt : Nat} (hT : S.2.2.2.2.1 pc = some (.if_acmp .ne off, 3)) (ht : (pc : Int) + off = (tgt : Int)) (kt : ¬ i = j → gTd z S EV Q T M0 A U L k n tgt ls st) (kf : i = j → gTd z S EV Q T M0 A U L k n (pc + 3) ls st) :
    gTd z S EV Q T M0 A U L k n pc ls (.ref (EV.2.2.2 (10 + j)) :: .ref (EV.2.2.2 (10 + i)) :: st) :=
  fun M h1 h2 h3 => g_acmpN X (some (EV.2.2.2 (10 + i))) (some (EV.2.2.2 (10 + j))) hT ht rfl (fun h => kt (fun e => h (by rw [e])) M h1 h2 h3) (fun h => kf (X.stat.2.2.2.2.2.2.1 i j hi hj (Option.some.inj h)) M h1 h2 h3)
theorem t_acmpE (X : CX z S EV) (rx ry : Option Nat) {off : Int} {tgt : Nat} (hT : S.2.2.2.2.1 pc = some (.if_acmp .eq off, 3)) (ht : (pc : Int) + off = (tgt : Int)) (hst : st = va_rf ry :: va_rf rx :: rest) (kt : rx = ry → gTd z S EV Q T M0 A U L k n tgt ls rest) (kf : ¬ rx = ry → gTd z S EV Q T M0 A U L k n (pc + 3) ls rest) : gTd z S EV Q T M0 A U L k n pc ls st :=
  fun M h1 h2 h3 => g_acmpE X rx ry hT ht hst (fun h => kt h M h1 h2 h3) (fun h => kf h M h1 h2 h3)
/-- the reference of a live cell is known by its place: two places of one kind are two addresses -/
theorem TD.inj {M : gM} (h : TD EV M A U) {c i j : Nat} {e1 e2 : va_E} (h1 : sC EV A U (c, i) = some e1) (h2 : sC EV A U (c, j) = some e2) (h3 : A c i = A c j) : i = j := by
  have g1 := h.1 _ _ h1
  have g2 := h.1 _ _ h2
  have g3 : M (A c i) = M (A c j) := by rw [h3]
  rw [show M (A c i) = _ from g1, show M (A c j) = _ from g2] at g3
  exact congrArg Prod.snd (congrArg Prod.fst (Option.some.inj g3))
variable {A0 : gAd} {U0 : gV}
/-- the frame begins anew here, over what stands -/
theorem t_base {T1 : gTag → Prop} (kk : ∀ M1, TD EV M1 A U → gL M1 L → gFr T M0 M1 → gTd z S EV Q T1 M1 A U L k n pc ls st) : gTd z S EV Q T M0 A U L k n pc ls st :=
  fun M h1 h2 h3 => kk M h1 h2 h3 M h1 h2 gFr.rf
theorem t_unbase {T1 : gTag → Prop} {M1 : gM} (hF : gFr T M0 M1) (hT : ∀ t, T1 t → T t) (kk : gTd z S EV Q T M0 A U L k n pc ls st) : gTd z S EV Q T1 M1 A U L k n pc ls st :=
  fun M h1 h2 h3 => kk M h1 h2 (hF.trans (h3.mono hT))
variable {y x : MethodName} {bytes : ByteArray} {maxL nA ci d' mc' ms' : Nat} {ret : Option FieldType} {b : Nat} {t : gTag} {fs : List Value} {owner : String}
/-- a call whose contract leans on the frame -/
theorem t_callFM (X : CX z S EV) {count : Nat} (ps rs : List Nat) (hT : S.2.2.2.2.1 pc = some (.invokeinterface idx count, 5)) (LK : gLkF S.2.1 idx ci x y bytes maxL ret nA) (hC : ∀ M, TD EV M A U → gL M Lc → gFr T M0 M → GC z.2.1 y (ws_ y bytes maxL ret) d' mc' ms' EV (.ref b :: As) M (tP EV T' M R) (tX EV T' M A U RX)) (hb : ∀ M, TD EV M A U → gL M L → ∃ t fs, M b = some (t, .inr (ci, fs)))
    (hps : ps.filterMap (fun i => L[i]?) = Lc) (hrs : rs.filterMap (fun i => L[i]?) = Lr) (hTT : ∀ t, T' t → T t) (hr : ∀ x ∈ Lr, ¬ T' x.2.1)
    (hn : As.length = nA) (hst : st = As.reverse ++ .ref b :: rest) (hw : (rest.map fun v => v.category).sum ≤ 8) (hf : gFit z k n d' mc' ms') (kx : ∀ E, RX E → gTt z S EV Q T M0 A U (k + mc') (n + ms') pc ls rest E)
    (kk : ∀ v A' U' L', R v A' U' L' → gTd z S EV Q T M0 A' U' (L' ++ Lr) (k + mc') (n + ms') (pc + 5) ls (v.toList ++ rest)) : gTd z S EV Q T M0 A U L k n pc ls st :=
  fun M h1 h2 h3 => by
    obtain ⟨t, fs, hM⟩ := hb M h1 h2
    exact g_callF X hT LK (hC M h1 (h2.sub ps hps) h3) hM hn hst hw hf (fun E M' ⟨hE, hD, hF⟩ => kx E hE M' hD (h3.trans (hF.mono hTT))) (fun v M' ⟨A', U', L', hR, hD, hL, hF⟩ => kk v A' U' L' hR M' hD (hL.app ((h2.sub rs hrs).fr hF hr)) (h3.trans (hF.mono hTT)))
theorem t_castA (X : CX z S EV) (i : Nat) {b : Nat} {C nm : String} (hT : S.2.2.2.2.1 pc = some (.checkcast idx, 3)) (hk : Cond.classLink S.2.1 idx nm ∈ lw_all) (hi : (gTys EV.2.1)[i]? = some (EV.2.1 i, .object C)) (hn : "[" ++ (FieldType.object C).toString = nm) (hb : ∀ M, TD EV M A U → gL M L → ∃ t x, M b = some (t, .inl (EV.2.1 i, x)))
    (kk : gTd z S EV Q T M0 A U L k n (pc + 3) ls (.ref b :: st)) : gTd z S EV Q T M0 A U L k n pc ls (.ref b :: st) :=
  fun M h1 h2 h3 => by
    obtain ⟨t, x, hM⟩ := hb M h1 h2
    exact g_castA X i hT hk hi hn hM (kk M h1 h2 h3)
end GT
/-! lists that grow and shrink -/
section
variable {EV : gEV} {M M' : gM} {A : gAd} {U U' : gV} {i N : Nat} {f' : Nat → Nat}
theorem TD.app2 (h : TD EV M A U) (hF : gFr (tAL i) M M') (hA : gAL EV M' i (A 30 i) N f') (hs : ∀ t, sC EV A U' t = sC EV A U t) (hi : ∀ i', i' ≠ i → alL U' i' → alL U i' ∧ alN U' i' = alN U i' ∧ ∀ j : Nat, (j : Int) < alN U i' → alF A U' i' j = alF A U i' j)
    (hn : (alN U' i).toNat = N) (hf : ∀ j, j < N → alF A U' i j = f' j) (hl : (∀ i, llL U' i → llL U i) ∧ (∀ i, llN U' i = llN U i) ∧ ∀ i j, llF A U' i j = llF A U i j) : TD EV M' A U' := by
  refine ⟨fun t e he => ?_, fun i' h' => ?_, fun i' h' => ?_⟩
  · rw [hs t] at he
    have h2 := sC_lt he
    exact hF _ _ _ (h.1 t e he) (fun z => by rcases z with z | z; (rw [z] at h2; simp at h2); omega)
  · by_cases e : i' = i
    · subst e
      rw [hn]
      exact hA.cf hf
    · obtain ⟨g1, g2, g3⟩ := hi i' e h'
      rw [g2]
      refine ((h.2.1 i' g1).cf (fun j hj => g3 j (by omega))).fr hF (fun z => ?_) (fun p z => ?_)
      · rcases z with z | ⟨z, -⟩
        · exact e (congrArg Prod.snd z)
        · simp at z
      · rcases z with z | ⟨-, z⟩
        · have := congrArg Prod.fst z
          simp at this
          omega
        · exact e z
  · rw [hl.2.1 i', show llF A U' i' = llF A U i' from funext (hl.2.2 i')]
    refine (h.2.2 i' (hl.1 i' h')).fr hF (fun z => ?_) (fun p hp z => ?_)
    · rcases z with z | ⟨z, -⟩
      · simp at z
      · simp at z
    · rcases z with z | ⟨z, -⟩
      · simp at z
      · simp at z
theorem TD.lapp (h : TD EV M A U) (hF : gFr (tLL i) M M') (hA : gLk M' i (A 24 i) N f') (hs : ∀ t, sC EV A U' t = sC EV A U t) (hi : ∀ i', i' ≠ i → llL U' i' → llL U i' ∧ llN U' i' = llN U i' ∧ ∀ j : Nat, (j : Int) < llN U i' → j < 6 → llF A U' i' j = llF A U i' j)
    (hn : (llN U' i).toNat = N) (hf : ∀ j, j < N → llF A U' i j = f' j) (hl : (∀ i, alL U' i → alL U i) ∧ (∀ i, alN U' i = alN U i) ∧ ∀ i j, alF A U' i j = alF A U i j) : TD EV M' A U' := by
  refine ⟨fun t e he => ?_, fun i' h' => ?_, fun i' h' => ?_⟩
  · rw [hs t] at he
    have h2 := sC_lt he
    refine hF _ _ _ (h.1 t e he) (fun z => ?_)
    rcases z with z | z
    · rw [z] at h2; simp at h2
    · omega
  · rw [hl.2.1 i', show alF A U' i' = alF A U i' from funext (hl.2.2 i')]
    refine (h.2.1 i' (hl.1 i' h')).fr hF (fun z => ?_) (fun p z => ?_)
    · rcases z with z | ⟨z, -⟩
      · simp at z
      · simp at z
    · rcases z with z | ⟨z, -⟩
      · have := congrArg Prod.fst z
        simp at this
        omega
      · simp at z
        omega
  · by_cases e : i' = i
    · subst e
      rw [hn]
      exact hA.cf hf
    · obtain ⟨g1, g2, g3⟩ := hi i' e h'
      rw [g2]
      have h9 := h.2.2 i' g1
      have h8 : (llN U i').toNat ≤ 6 := by
        obtain ⟨m, ns, g0, -⟩ := h9
        exact g0
      refine (h9.cf (fun j hj => g3 j (by omega) (by omega))).fr hF (fun z => ?_) (fun p hp z => ?_)
      · rcases z with z | ⟨z, -⟩
        · exact e (congrArg Prod.snd z)
        · simp at z
      · rcases z with z | ⟨-, z⟩
        · simp at z
        · have z2 : (8 * i' + p) / 8 = i := z
          omega
theorem gOz_11 (h : TD EV M A U) {w : Nat} (hw : (w : Int) < U 41 0) : gOz M (A 11 w) := ⟨_, 7, _, _, h.1 (11, w) _ (sC_11 hw), rfl, q2704, Nat.le_of_ble_eq_true rfl⟩
theorem gOw_11 (h : TD EV M A U) {w : Nat} (hw : (w : Int) < U 41 0) : gOw M (A 11 w) := ⟨_, 7, _, _, h.1 (11, w) _ (sC_11 hw), rfl, q2704, Nat.le_of_ble_eq_true rfl⟩
theorem gOz_12 (h : TD EV M A U) {w : Nat} (hw : (w : Int) < U 42 0) : gOz M (A 12 w) := ⟨_, 16, _, _, h.1 (12, w) _ (sC_12 hw), rfl, q2719, Nat.le_of_ble_eq_true rfl⟩
theorem gOz_13 (h : TD EV M A U) {w : Nat} (hw : (w : Int) < U 43 0) : gOz M (A 13 w) := ⟨_, 15, _, _, h.1 (13, w) _ (sC_13 hw), rfl, q2718, Nat.le_of_ble_eq_true rfl⟩
theorem gOz_14 (h : TD EV M A U) {w : Nat} (hw : w < 6) : gOz M (A 14 w) := ⟨_, 5, _, _, h.1 (14, w) _ (sC_14 hw), rfl, q2692, Nat.le_of_ble_eq_true rfl⟩
theorem gOz_15 (h : TD EV M A U) {w : Nat} (hw : (w : Int) < U 45 0) : gOz M (A 15 w) := ⟨_, 18, _, _, h.1 (15, w) _ (sC_15 hw), rfl, q2727, Nat.le_of_ble_eq_true rfl⟩
theorem gOz_16 (h : TD EV M A U) {w : Nat} (hw : (w : Int) < U 46 0) : gOz M (A 16 w) := by
  have h1 := h.1 (16, w) _ (sC_16 hw)
  unfold sEv at h1
  split at h1
  · exact ⟨_, 9, _, _, h1, rfl, q2706, Nat.le_of_ble_eq_true rfl⟩
  · split at h1
    · exact ⟨_, 12, _, _, h1, rfl, q2709, Nat.le_of_ble_eq_true rfl⟩
    · split at h1
      · exact ⟨_, 19, _, _, h1, rfl, q2728, Nat.le_of_ble_eq_true rfl⟩
      · exact ⟨_, 20, _, _, h1, rfl, q2730, Nat.le_of_ble_eq_true rfl⟩
end
section
variable (l : Launch) (EV : gEV) {A : gAd} {U U' : gV} {i : Nat}
theorem tc_aladd (hi : alL U i) (hn : 0 ≤ alN U i ∧ alN U i ≤ 72) {x : Nat} (hx : ∀ M, TD EV M A U → gOz M x) (hob : ∀ M, TD EV M A U → ∀ j : Nat, (j : Int) < alN U i → gOz M (alF A U i j)) (hs : ∀ t, sC EV A U' t = sC EV A U t)
    (ho : ∀ i', i' ≠ i → alL U' i' → alL U i' ∧ alN U' i' = alN U i' ∧ ∀ j : Nat, (j : Int) < alN U i' → alF A U' i' j = alF A U i' j) (hN : alN U' i = alN U i + 1) (hf : ∀ j : Nat, (j : Int) < alN U i → alF A U' i j = alF A U i j) (hf0 : alF A U' i (alN U i).toNat = x)
    (hl : (∀ i, llL U' i → llL U i) ∧ (∀ i, llN U' i = llN U i) ∧ ∀ i j, llF A U' i j = llF A U i j) : TC l yJ2_add cJ2_add 2 (some .boolean) 8 1 1000 EV (tAL i) [.ref (A 30 i), .ref x] A U [] (rV (some (.int (iI 1))) A U' []) rNo := by
  intro M hD hL
  refine (al_add l EV (hD.2.1 i hi) (fun j hj => hob M hD j (by omega)) (hx M hD) (by omega)).mono (fun v M' ⟨e1, e2, hF⟩ => ⟨A, U', [], ⟨e1, rfl, rfl, rfl⟩, ?_, fun x hx => (List.not_mem_nil hx).elim, hF⟩) gNo.x
  refine hD.app2 hF e2 hs ho (by rw [hN]; omega) (fun j hj => ?_) hl
  by_cases hjn : j = (alN U i).toNat
  · rw [if_pos hjn, hjn]
    exact hf0
  · rw [if_neg hjn]
    exact hf j (by omega)
theorem tc_lladd (hi : llL U i) (hn : 0 ≤ llN U i ∧ llN U i < 6) {x : Nat} (hs : ∀ t, sC EV A U' t = sC EV A U t)
    (ho : ∀ i', i' ≠ i → llL U' i' → llL U i' ∧ llN U' i' = llN U i' ∧ ∀ j : Nat, (j : Int) < llN U i' → j < 6 → llF A U' i' j = llF A U i' j) (hN : llN U' i = llN U i + 1) (hf : ∀ j : Nat, (j : Int) < llN U i → llF A U' i j = llF A U i j) (hf0 : llF A U' i (llN U i).toNat = x)
    (hl : (∀ i, alL U' i → alL U i) ∧ (∀ i, alN U' i = alN U i) ∧ ∀ i j, alF A U' i j = alF A U i j) : TC l yJ7_addLast cJ7_addLast 2 none 3 1 3 EV (tLL i) [.ref (A 24 i), .ref x] A U [] (rV none A U' []) rNo := by
  intro M hD hL
  refine (ll_add l EV (hD.2.2 i hi) (by omega) x).mono (fun v M' ⟨e1, e2, hF⟩ => ⟨A, U', [], ⟨e1, rfl, rfl, rfl⟩, ?_, fun x hx => (List.not_mem_nil hx).elim, hF⟩) gNo.x
  refine hD.lapp hF e2 hs ho (by rw [hN]; omega) (fun j hj => ?_) hl
  by_cases hjn : j = (llN U i).toNat
  · rw [if_pos hjn, hjn]
    exact hf0
  · rw [if_neg hjn]
    exact hf j (by omega)
theorem tc_llremove (hi : llL U i) (hn : 0 < llN U i) (hs : ∀ t, sC EV A U' t = sC EV A U t)
    (ho : ∀ i', i' ≠ i → llL U' i' → llL U i' ∧ llN U' i' = llN U i' ∧ ∀ j : Nat, (j : Int) < llN U i' → j < 6 → llF A U' i' j = llF A U i' j) (hN : llN U' i = llN U i - 1) (hf : ∀ j : Nat, (j : Int) < llN U i → llF A U' i j = llF A U i j)
    (hl : (∀ i, alL U' i → alL U i) ∧ (∀ i, alN U' i = alN U i) ∧ ∀ i j, alF A U' i j = alF A U i j) : TC l yJ7_removeLast cJ7_removeLast 2 (some (.object "java/lang/Object")) 2 0 0 EV (tLL i) [.ref (A 24 i)] A U [] (rV (some (.ref (llF A U i ((llN U i).toNat - 1)))) A U' []) rNo := by
  intro M hD hL
  refine (ll_remove l EV (hD.2.2 i hi) (by omega)).mono (fun v M' ⟨e1, e2, hF⟩ => ⟨A, U', [], ⟨e1, rfl, rfl, rfl⟩, ?_, fun x hx => (List.not_mem_nil hx).elim, hF⟩) gNo.x
  exact hD.lapp hF e2 hs ho (by rw [hN]; omega) (fun j hj => hf j (by omega)) hl
theorem tc_llclear (hi : llL U i) (hn : 0 < llN U i) (hs : ∀ t, sC EV A U' t = sC EV A U t)
    (ho : ∀ i', i' ≠ i → llL U' i' → llL U i' ∧ llN U' i' = llN U i' ∧ ∀ j : Nat, (j : Int) < llN U i' → j < 6 → llF A U' i' j = llF A U i' j) (hN : llN U' i = 0)
    (hl : (∀ i, alL U' i → alL U i) ∧ (∀ i, alN U' i = alN U i) ∧ ∀ i j, alF A U' i j = alF A U i j) : TC l yJ7_clear cJ7_clear 3 none 1 0 0 EV (tLL i) [.ref (A 24 i)] A U [] (rV none A U' []) rNo := by
  intro M hD hL
  refine (ll_clear l EV (hD.2.2 i hi) (by omega) (llF A U i)).mono (fun v M' ⟨e1, e2, hF⟩ => ⟨A, U', [], ⟨e1, rfl, rfl, rfl⟩, ?_, fun x hx => (List.not_mem_nil hx).elim, hF⟩) gNo.x
  exact hD.lapp hF e2 hs ho (by rw [hN]; rfl) (fun j hj => absurd hj (by omega)) hl
end
