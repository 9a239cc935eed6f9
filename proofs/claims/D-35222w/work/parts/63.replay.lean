/-! THE SYSTEM's replay: rows over cells known by membership; its picture; what it computes -/
section GT
variable {z : gZ} {S : gS} {EV : gEV} {Q : State → Prop} {M0 : gM} {T T' : gTag → Prop} {A : gAd} {U : gV} {L L' : gLL} {k n pc idx : Nat} {ls : List (Option Value)} {st rest As : List Value}
theorem t_Lm (h : ∀ x ∈ L', x ∈ L) (kk : gTd z S EV Q T M0 A U L' k n pc ls st) : gTd z S EV Q T M0 A U L k n pc ls st :=
  fun M h1 h2 h3 => kk M h1 (fun x hx => h2 x (h x hx)) h3
theorem mL_up {M : gM} {a : Nat} {t : gTag} {e0 e : va_E} (h : gL M L) (h0 : (a, t, e0) ∈ L) (hL' : ∀ x ∈ L', x = (a, t, e) ∨ (x ∈ L ∧ ¬ x.2.1 = t)) : gL (mU M a t e) L' := by
  intro x hx
  rcases hL' x hx with e9 | ⟨h9, h8⟩
  · subst e9; exact mU_s
  · exact (gFr.up (h _ h0) rfl : gFr (tO t) M (mU M a t e)) _ _ _ (h x h9) h8
theorem fm_all (L : gLL) : (List.range L.length).filterMap (fun i => L[i]?) = L := by
  induction L with
  | nil => rfl
  | cons x L ih =>
    rw [List.length_cons, List.range_succ_eq_map, List.filterMap_cons]
    simp only [List.getElem?_cons_zero, List.filterMap_map]
    congr 1
theorem t_mget (X : CX z S EV) {ci j kind a : Nat} {ty : FieldType} {t : gTag} {fs : List Value} {v : Value} (hT : S.2.2.2.2.1 pc = some (.getfield idx, 3)) (F : gFld S.2.1 idx ci j ty kind) (hL : (a, t, .inr (ci, fs)) ∈ L) (hv : fs[j]? = some v)
    (kk : gTd z S EV Q T M0 A U L k n (pc + 3) ls (v :: st)) : gTd z S EV Q T M0 A U L k n pc ls (.ref a :: st) :=
  fun M h1 h2 h3 => g_get X hT F (h2 _ hL) hv (kk M h1 h2 h3)
theorem t_mput (X : CX z S EV) {ci j a : Nat} {ty : FieldType} {t : gTag} {fs fs' : List Value} {v : Value} (hT : S.2.2.2.2.1 pc = some (.putfield idx, 3)) (F : gFld S.2.1 idx ci j ty 0) (hL : (a, t, .inr (ci, fs)) ∈ L) (hn : narrow ty v = v) (hf : fits ty v = true) (hj : j < fs.length) (hfs : fs.set j v = fs') (hTt : T t) (hl : 70 ≤ t.1 ∧ t.1 < 100)
    (hL' : ∀ x ∈ L', x = (a, t, .inr (ci, fs')) ∨ (x ∈ L ∧ ¬ x.2.1 = t)) (kk : gTd z S EV Q T M0 A U L' k n (pc + 3) ls st) : gTd z S EV Q T M0 A U L k n pc ls (v :: .ref a :: st) := by
  intro M h1 h2 h3
  subst hfs
  exact g_put X hT F (h2 _ hL) hn hf hj rfl (kk _ (h1.loc (gFr.up (h2 _ hL) rfl : gFr (tO t) M _) (tO_loc hl)) (mL_up h2 hL hL') (h3.upT (h2 _ hL) hTt))
theorem t_miald (X : CX z S EV) {a N j : Nat} {t : gTag} {f : Nat → Int32} {x v : Int32} (hT : S.2.2.2.2.1 pc = some (.iaload, 1)) (hL : (a, t, .inl (EV.2.1 0, N, .inl f)) ∈ L) (hx : gIx x N j) (hv : f j = v) (kk : gTd z S EV Q T M0 A U L k n (pc + 1) ls (.int v :: st)) : gTd z S EV Q T M0 A U L k n pc ls (.int x :: .ref a :: st) :=
  fun M h1 h2 h3 => g_iald X hT (h2 _ hL) hx hv (kk M h1 h2 h3)
theorem t_maald (X : CX z S EV) {a N j : Nat} {t : gTag} {f : Nat → Option Nat} {x : Int32} {v : Value} (hT : S.2.2.2.2.1 pc = some (.aaload, 1)) (hL : (a, t, .inl (EV.2.1 5, N, refs f)) ∈ L) (hx : gIx x N j) (hv : va_rf (f j) = v) (kk : gTd z S EV Q T M0 A U L k n (pc + 1) ls (v :: st)) : gTd z S EV Q T M0 A U L k n pc ls (.int x :: .ref a :: st) :=
  fun M h1 h2 h3 => g_aaldA X 5 hT rfl (h2 _ hL) hx hv (kk M h1 h2 h3)
theorem t_malen (X : CX z S EV) {a N : Nat} {t : gTag} {f : Nat → Int32} {v : Int32} (hT : S.2.2.2.2.1 pc = some (.arraylength, 1)) (hL : (a, t, .inl (EV.2.1 0, N, .inl f)) ∈ L) (hv : Int32.ofNat N = v) (kk : gTd z S EV Q T M0 A U L k n (pc + 1) ls (.int v :: st)) : gTd z S EV Q T M0 A U L k n pc ls (.ref a :: st) :=
  fun M h1 h2 h3 => g_alen X 0 hT rfl (h2 _ hL) hv (kk M h1 h2 h3)
theorem t_miast (X : CX z S EV) {a N j : Nat} {t : gTag} {f f' : Nat → Int32} {x v : Int32} (hT : S.2.2.2.2.1 pc = some (.iastore, 1)) (hL : (a, t, .inl (EV.2.1 0, N, .inl f)) ∈ L) (hx : gIx x N j) (hf : upd f j v = f') (hTt : T t) (hl : 70 ≤ t.1 ∧ t.1 < 100)
    (hL' : ∀ x ∈ L', x = (a, t, .inl (EV.2.1 0, N, .inl f')) ∨ (x ∈ L ∧ ¬ x.2.1 = t)) (kk : gTd z S EV Q T M0 A U L' k n (pc + 1) ls st) : gTd z S EV Q T M0 A U L k n pc ls (.int v :: .int x :: .ref a :: st) := by
  intro M h1 h2 h3
  exact g_iast X hT (h2 _ hL) hx hf (kk _ (h1.loc (gFr.up (h2 _ hL) rfl : gFr (tO t) M _) (tO_loc hl)) (mL_up h2 hL hL') (h3.upT (h2 _ hL) hTt))
theorem t_maast (X : CX z S EV) {a b N j : Nat} {t tv : gTag} {f f' : Nat → Option Nat} {y : vp_A} {x : Int32} (hT : S.2.2.2.2.1 pc = some (.aastore, 1)) (hL : (a, t, .inl (EV.2.1 5, N, refs f)) ∈ L) (hb : (b, tv, .inl (EV.2.1 0, y)) ∈ L) (hx : gIx x N j) (hf : va_up f j (some b) = f') (hTt : T t) (hl : 70 ≤ t.1 ∧ t.1 < 100)
    (hL' : ∀ x ∈ L', x = (a, t, .inl (EV.2.1 5, N, refs f')) ∨ (x ∈ L ∧ ¬ x.2.1 = t)) (kk : gTd z S EV Q T M0 A U L' k n (pc + 1) ls st) : gTd z S EV Q T M0 A U L k n pc ls (.ref b :: .int x :: .ref a :: st) := by
  intro M h1 h2 h3
  exact g_aastA X hT (h2 _ hL) (h2 _ hb) hx hf (kk _ (h1.loc (gFr.up (h2 _ hL) rfl : gFr (tO t) M _) (tO_loc hl)) (mL_up h2 hL hL') (h3.upT (h2 _ hL) hTt))
theorem t_mcopyI (X : CX z S EV) {a0 a n0 n1 : Nat} {t0 t : gTag} {f g f' : Nat → Int32} {sp dp len : Int32} (hT : S.2.2.2.2.1 pc = some (.invokestatic idx, 3)) (C : gCp S.2.1 idx) (h0 : (a0, t0, .inl (EV.2.1 0, n0, .inl f)) ∈ L) (hL : (a, t, .inl (EV.2.1 0, n1, .inl g)) ∈ L)
    (h1 : ¬ sp < 0) (h2 : ¬ dp < 0) (h3 : ¬ len < 0) (h4 : sp.toNatClampNeg + len.toNatClampNeg ≤ n0) (h5 : dp.toNatClampNeg + len.toNatClampNeg ≤ n1) (hf : va_cpy f g sp.toNatClampNeg dp.toNatClampNeg len.toNatClampNeg = f') (hfr : 1 ≤ z.2.2.2.1.frames ∧ 64 ≤ z.2.2.2.1.locals) (hw : (st.map fun v => v.category).sum ≤ 8) (hTt : T t) (hl : 70 ≤ t.1 ∧ t.1 < 100)
    (hL' : ∀ x ∈ L', x = (a, t, .inl (EV.2.1 0, n1, .inl f')) ∨ (x ∈ L ∧ ¬ x.2.1 = t)) (kk : gTd z S EV Q T M0 A U L' k n (pc + 3) ls st) : gTd z S EV Q T M0 A U L k n pc ls (.int len :: .int dp :: .ref a :: .int sp :: .ref a0 :: st) := by
  intro M g1 g2 g3
  exact g_copyI X hT C (g2 _ h0) (g2 _ hL) h1 h2 h3 h4 h5 hf hfr hw (kk _ (g1.loc (gFr.up (g2 _ hL) rfl : gFr (tO t) M _) (tO_loc hl)) (mL_up g2 hL hL') (g3.upT (g2 _ hL) hTt))
theorem gRow_fr {M : gM} {q : Nat} {t tr : gTag} {cA cI : ClassId} {N K : Nat} (hq : ∀ a : Nat, q ≤ a → M a = none) : gFr T M (gRow M q t tr cA cI N K) := by
  intro b t' e' hb hn
  unfold gRow
  have h : ¬ q ≤ b := fun h => by rw [hq b h] at hb; cases hb
  rw [if_neg (by omega), if_neg (by omega)]
  exact hb
/-- the cells of a new array of N arrays of K -/
def rowL (q : Nat) (t tr : gTag) (cA cI : ClassId) (N K : Nat) : gLL := (q, t, .inl (cA, N, refs (fun j => if j < N then some (q + 1 + j) else none))) :: (List.range N).map (fun j => (q + 1 + j, (tr.1, tr.2 + j), .inl (cI, K, .inl (fun _ => 0))))
theorem t_multi (X : CX z S EV) (t tr : gTag) (i i0 : Nat) {ty : FieldType} (hty : ty = .int ∧ i = 5 ∧ i0 = 0 ∨ ty = .boolean ∧ i = 6 ∧ i0 = 1) {x y : Int32} {N K : Nat} (hT : S.2.2.2.2.1 pc = some (.multianewarray idx 2, 4)) (hk : Cond.classLink S.2.1 idx ("[" ++ (FieldType.array ty).toString) ∈ lw_all)
    (hx : ¬ x < 0) (hN : x.toNatClampNeg = N) (hy : ¬ y < 0) (hK : y.toNatClampNeg = K) (hb : N ≤ 10000 ∧ K ≤ 10000) (hc : k + (1 + N) ≤ z.2.2.2.1.cells) (hs : n + (N + N * K) ≤ z.2.2.2.1.slots)
    (kk : ∀ q : Nat, gTd z S EV Q T M0 A U (L ++ rowL q t tr (EV.2.1 i) (EV.2.1 i0) N K) (k + 1 + N) (n + N + N * K) (pc + 4) ls (.ref q :: st)) : gTd z S EV Q T M0 A U L k n pc ls (.int y :: .int x :: st) := by
  intro M h1 h2 h3
  refine g_multi X t tr i i0 hty hT hk hx hN hy hK hb hc hs (fun q hq => kk q _ (h1.loc (gRow_fr hq : gFr tF _ _) tF_loc) (fun x hx => ?_) (h3.trans (gRow_fr hq)))
  rcases List.mem_append.mp hx with hx | hx
  · exact (gRow_fr hq : gFr tF _ _) _ _ _ (h2 x hx) (fun h => h)
  · rcases List.mem_cons.mp hx with hx | hx
    · subst hx
      show gRow M q t tr (EV.2.1 i) (EV.2.1 i0) N K q = _
      unfold gRow
      rw [if_pos rfl]
    · obtain ⟨j, hj, rfl⟩ := List.mem_map.mp hx
      have hj := List.mem_range.mp hj
      show gRow M q t tr (EV.2.1 i) (EV.2.1 i0) N K (q + 1 + j) = _
      unfold gRow
      rw [if_neg (by omega), if_pos (by omega), show q + 1 + j - (q + 1) = j by omega]
theorem t_mnewqA (X : CX z S EV) (t : gTag) {x : Int32} {N : Nat} (hT : S.2.2.2.2.1 pc = some (.anewarray idx, 3)) (hk : Cond.classLink S.2.1 idx "[I" ∈ lw_all) (hx : ¬ x < 0) (hN : x.toNatClampNeg = N) (hby : N ≤ 100000) (hc : k + 1 ≤ z.2.2.2.1.cells) (hs : n + N ≤ z.2.2.2.1.slots)
    (kk : ∀ q : Nat, gTd z S EV Q T M0 A U (L ++ [(q, t, .inl (EV.2.1 5, N, refs (fun _ => none)))]) (k + 1) (n + N) (pc + 3) ls (.ref q :: st)) : gTd z S EV Q T M0 A U L k n pc ls (.int x :: st) :=
  fun _ h1 h2 h3 => g_newqA X t hT hk hx hN hby hc hs (fun q hq => kk q _ (h1.loc (gFr.new hq : gFr tF _ _) tF_loc) (h2.new hq) (h3.trans (gFr.new hq)))
theorem t_inst (X : CX z S EV) (t : gTag) {ci : Nat} {nm : String} {fs : List Value} {b : Bool} {v : Value} (hT : S.2.2.2.2.1 pc = some (.instanceof idx, 3)) (C : if b then gCa S.2.1 idx ci nm else gNa S.2.1 idx ci nm) (hs : sC EV A U t = some (.inr (ci, fs))) (hv : v = .int (iI (if b then 1 else 0))) (kk : gTd z S EV Q T M0 A U L k n (pc + 3) ls (v :: st)) : gTd z S EV Q T M0 A U L k n pc ls (.ref (A t.1 t.2) :: st) := by
  intro M h1 h2 h3
  subst hv
  cases b
  · exact g_instN X hT C (h1.1 t _ hs) (kk M h1 h2 h3)
  · exact g_instY X hT C (h1.1 t _ hs) (kk M h1 h2 h3)
end GT
/-- the tags of a replay -/
def tRp : gTag → Prop := fun t => 78 ≤ t.1 ∧ t.1 ≤ 83
theorem tRp_loc : ∀ t, tRp t → tLoc t := fun t h => by unfold tRp at h; unfold tLoc; omega
def rpC0 (A B : gAd) (V : gV) : Nat × gTag × va_E := (B 78 0, (78, 0), .inr (13, [.ref (B 79 0), .ref (B 81 0), .ref (B 82 0), .int (iI (V 25 0)), .ref (A 10 0)]))
def rpC1 (EV : gEV) (B : gAd) : Nat × gTag × va_E := (B 79 0, (79, 0), .inl (EV.2.1 5, 15, refs (fun j => if j < 15 then some (B 80 j) else none)))
def rpC2 (EV : gEV) (B : gAd) (V : gV) : Nat × gTag × va_E := (B 81 0, (81, 0), .inl (EV.2.1 0, 15, .inl (fun j => iI (V 6 j))))
def rpC3 (EV : gEV) (B : gAd) (V : gV) (NT : Nat) : Nat × gTag × va_E := (B 82 0, (82, 0), .inl (EV.2.1 5, NT, refs (fun j => if (j : Int) < V 25 0 then some (B 83 j) else none)))
def rpR (EV : gEV) (B : gAd) (V : gV) (j : Nat) : Nat × gTag × va_E := (B 80 j, (80, j), .inl (EV.2.1 0, 6, .inl (fun i => if i < 6 then iI (V 7 (6 * j + i)) else 0)))
def rpT (EV : gEV) (B : gAd) (V : gV) (j : Nat) : Nat × gTag × va_E := (B 83 j, (83, j), .inl (EV.2.1 0, (V 28 j).toNat, .inl (fun i => if (i : Int) < V 28 j then iI (V 29 (6 * j + i)) else 0)))
def rpL (EV : gEV) (A B : gAd) (V : gV) (NT : Nat) : gLL := [rpC0 A B V, rpC1 EV B, rpC2 EV B V, rpC3 EV B V NT] ++ ((List.range 15).map (rpR EV B V) ++ (List.range (V 25 0).toNat).map (rpT EV B V))
section
variable {EV : gEV} {A B : gAd} {V : gV} {NT : Nat}
theorem rp_m0 : rpC0 A B V ∈ rpL EV A B V NT := List.mem_append_left _ (List.mem_cons_self ..)
theorem rp_m1 : rpC1 EV B ∈ rpL EV A B V NT := List.mem_append_left _ (List.mem_cons_of_mem _ (List.mem_cons_self ..))
theorem rp_m2 : rpC2 EV B V ∈ rpL EV A B V NT := List.mem_append_left _ (List.mem_cons_of_mem _ (List.mem_cons_of_mem _ (List.mem_cons_self ..)))
theorem rp_m3 : rpC3 EV B V NT ∈ rpL EV A B V NT := List.mem_append_left _ (List.mem_cons_of_mem _ (List.mem_cons_of_mem _ (List.mem_cons_of_mem _ (List.mem_cons_self ..))))
theorem rp_mR {j : Nat} (h : j < 15) : rpR EV B V j ∈ rpL EV A B V NT := List.mem_append_right _ (List.mem_append_left _ (List.mem_map.mpr ⟨j, List.mem_range.mpr h, rfl⟩))
theorem rp_mT {j : Nat} (h : (j : Int) < V 25 0) : rpT EV B V j ∈ rpL EV A B V NT := List.mem_append_right _ (List.mem_append_right _ (List.mem_map.mpr ⟨j, List.mem_range.mpr (by omega), rfl⟩))
theorem rp_el {P : Nat × gTag × va_E → Prop} (h0 : P (rpC0 A B V)) (h1 : P (rpC1 EV B)) (h2 : P (rpC2 EV B V)) (h3 : P (rpC3 EV B V NT)) (hR : ∀ j, j < 15 → P (rpR EV B V j)) (hT : ∀ j : Nat, (j : Int) < V 25 0 → P (rpT EV B V j)) : ∀ x ∈ rpL EV A B V NT, P x := by
  intro x hx
  rcases List.mem_append.mp hx with hx | hx
  · simp only [List.mem_cons, List.not_mem_nil, or_false] at hx
    rcases hx with rfl | rfl | rfl | rfl
    · exact h0
    · exact h1
    · exact h2
    · exact h3
  · rcases List.mem_append.mp hx with hx | hx
    · obtain ⟨j, hj, rfl⟩ := List.mem_map.mp hx
      exact hR j (List.mem_range.mp hj)
    · obtain ⟨j, hj, rfl⟩ := List.mem_map.mp hx
      have hj := List.mem_range.mp hj
      exact hT j (by omega)
/-- a number of a row is written -/
theorem rp_w7 {p x w : Int} (hp : 0 ≤ p ∧ p < 15) (hx : 0 ≤ x ∧ x < 6) : ∀ c ∈ rpL EV A B (vS V 7 (6 * p + x).toNat w) NT, c = (B 80 p.toNat, (80, p.toNat), .inl (EV.2.1 0, 6, .inl (fun i => if i < 6 then iI (vS V 7 (6 * p + x).toNat w 7 (6 * p.toNat + i)) else 0))) ∨ (c ∈ rpL EV A B V NT ∧ ¬ c.2.1 = (80, p.toNat)) := by
  refine rp_el (Or.inr ⟨rp_m0, fun e => ?_⟩) (Or.inr ⟨rp_m1, fun e => ?_⟩) (Or.inr ⟨rp_m2, fun e => ?_⟩) (Or.inr ⟨rp_m3, fun e => ?_⟩) (fun j hj => ?_) (fun j hj => Or.inr ⟨rp_mT hj, fun e => ?_⟩)
  · exact absurd (show (78 : Nat) = 80 from congrArg Prod.fst e) (by decide)
  · exact absurd (show (79 : Nat) = 80 from congrArg Prod.fst e) (by decide)
  · exact absurd (show (81 : Nat) = 80 from congrArg Prod.fst e) (by decide)
  · exact absurd (show (82 : Nat) = 80 from congrArg Prod.fst e) (by decide)
  · by_cases h : j = p.toNat
    · subst h; exact Or.inl rfl
    · refine Or.inr ⟨?_, fun e => h (congrArg Prod.snd e)⟩
      have e : rpR EV B (vS V 7 (6 * p + x).toNat w) j = rpR EV B V j := by
        unfold rpR
        congr 6
        funext i
        by_cases hi : i < 6
        · rw [if_pos hi, if_pos hi, vS_i (by omega)]
        · rw [if_neg hi, if_neg hi]
      rw [e]
      exact rp_mR hj
  · exact absurd (show (83 : Nat) = 80 from congrArg Prod.fst e) (by decide)
theorem rp_f7 {p x w : Int} (hp : 0 ≤ p ∧ p < 15) (hx : 0 ≤ x ∧ x < 6) : upd (fun i => if i < 6 then iI (V 7 (6 * p.toNat + i)) else 0) x.toNat (iI w) = (fun i => if i < 6 then iI (vS V 7 (6 * p + x).toNat w 7 (6 * p.toNat + i)) else 0) := by
  funext i
  by_cases h : i = x.toNat
  · subst h
    rw [if_pos (by omega), show 6 * p.toNat + x.toNat = (6 * p + x).toNat by omega, vS_s]
    simp [upd]
  · simp only [upd, if_neg h]
    by_cases hi : i < 6
    · rw [if_pos hi, if_pos hi, vS_i (by omega)]
    · rw [if_neg hi, if_neg hi]
/-- a size is written -/
theorem rp_w6 {i : Nat} {x : Int} : ∀ c ∈ rpL EV A B (vS V 6 i x) NT, c = rpC2 EV B (vS V 6 i x) ∨ (c ∈ rpL EV A B V NT ∧ ¬ c.2.1 = (81, 0)) := by
  refine rp_el (Or.inr ⟨rp_m0, fun e => ?_⟩) (Or.inr ⟨rp_m1, fun e => ?_⟩) (Or.inl rfl) (Or.inr ⟨rp_m3, fun e => ?_⟩) (fun j hj => Or.inr ⟨rp_mR hj, fun e => ?_⟩) (fun j hj => Or.inr ⟨rp_mT hj, fun e => ?_⟩)
  · exact absurd (show (78 : Nat) = 81 from congrArg Prod.fst e) (by decide)
  · exact absurd (show (79 : Nat) = 81 from congrArg Prod.fst e) (by decide)
  · exact absurd (show (82 : Nat) = 81 from congrArg Prod.fst e) (by decide)
  · exact absurd (show (80 : Nat) = 81 from congrArg Prod.fst e) (by decide)
  · exact absurd (show (83 : Nat) = 81 from congrArg Prod.fst e) (by decide)
theorem rp_f6 {i : Nat} {x : Int} : upd (fun j => iI (V 6 j)) i (iI x) = (fun j => iI (vS V 6 i x 6 j)) := by
  funext j
  by_cases h : j = i
  · subst h; simp [upd, vS]
  · simp [upd, vS, h]
end
/-! what a replay computes -/
def rSh (V : gV) (f p : Int) : Nat → gV
  | 0 => V
  | k + 1 => uPut (rSh V f p k) p (rSh V f p k 7 (6 * f + rSh V f p k 6 f.toNat + (k : Int)).toNat)
def rDp (V : gV) (p : Int) : gV := vS (vS (vS (uRo V (V 25 0) p (V 6 p.toNat).toNat) 28 (V 25 0).toNat (V 6 p.toNat)) 6 p.toNat 0) 25 0 (V 25 0 + 1)
def rAr (V : gV) (r p : Int) : Nat → gV
  | 0 => V
  | k + 1 => uPut (rAr V r p k) p (V 29 (6 * r + (k : Int)).toNat)
def rpS (U V : gV) (e : Nat) : gV := if U 34 e = 0 then uPut V (U 36 e) (U 35 e) else if U 34 e = 1 then rSh (vS V 6 (U 35 e).toNat (V 6 (U 35 e).toNat - U 37 e)) (U 35 e) (U 36 e) (U 37 e).toNat else if U 34 e = 2 then rDp V (U 35 e) else rAr V (U 35 e) (U 36 e) (V 28 (U 35 e).toNat).toNat
def rp (U : gV) : Nat → gV
  | 0 => fun _ _ => 0
  | e + 1 => rpS U (rp U e) e
/-- event e can be replayed in V -/
def rOk (U V : gV) (e : Nat) : Prop := (0 ≤ V 25 0 ∧ V 25 0 ≤ U 25 0) ∧
  (U 34 e = 0 → (0 ≤ U 36 e ∧ U 36 e < 15) ∧ 0 ≤ V 6 (U 36 e).toNat ∧ V 6 (U 36 e).toNat < 6) ∧
  (U 34 e = 1 → (0 ≤ U 35 e ∧ U 35 e < 15) ∧ (0 ≤ U 36 e ∧ U 36 e < 15) ∧ ¬ U 35 e = U 36 e ∧ (0 ≤ U 37 e ∧ U 37 e ≤ V 6 (U 35 e).toNat ∧ V 6 (U 35 e).toNat ≤ 6) ∧ 0 ≤ V 6 (U 36 e).toNat ∧ V 6 (U 36 e).toNat + U 37 e ≤ 6) ∧
  (U 34 e = 2 → (0 ≤ U 35 e ∧ U 35 e < 15) ∧ (0 ≤ V 6 (U 35 e).toNat ∧ V 6 (U 35 e).toNat ≤ 6) ∧ V 25 0 < U 25 0 ∧ ∀ j : Nat, (j : Int) < V 25 0 → V 28 j ≤ 6) ∧
  (U 34 e = 3 → (0 ≤ U 35 e ∧ U 35 e < V 25 0) ∧ (0 ≤ U 36 e ∧ U 36 e < 15) ∧ (0 ≤ V 28 (U 35 e).toNat ∧ V 28 (U 35 e).toNat ≤ 6) ∧ 0 ≤ V 6 (U 36 e).toNat ∧ V 6 (U 36 e).toNat + V 28 (U 35 e).toNat ≤ 6)
def uRp (U : gV) : Prop := ∀ e : Nat, (e : Int) < U 33 0 → rOk U (rp U e) e
theorem rSh_k {V : gV} {f p : Int} {k i : Nat} (h : k ≠ 7) (h6 : k ≠ 6) (n : Nat) : rSh V f p n k i = V k i := by
  induction n with
  | zero => rfl
  | succ n ih => rw [rSh, uPut_k h h6, ih]
theorem rSh_6 {V : gV} {f p : Int} (n : Nat) : rSh V f p n 6 p.toNat = V 6 p.toNat + n := by
  induction n with
  | zero => show V 6 _ = V 6 _ + 0; omega
  | succ n ih => rw [rSh, uPut, vS_s, ih]; omega
theorem rSh_6n {V : gV} {f p : Int} {i : Nat} (h : i ≠ p.toNat) (n : Nat) : rSh V f p n 6 i = V 6 i := by
  induction n with
  | zero => rfl
  | succ n ih => rw [rSh, uPut, vS_i h, vS_k (by decide), ih]
theorem rAr_k {V : gV} {r p : Int} {k i : Nat} (h : k ≠ 7) (h6 : k ≠ 6) (n : Nat) : rAr V r p n k i = V k i := by
  induction n with
  | zero => rfl
  | succ n ih => rw [rAr, uPut_k h h6, ih]
theorem rAr_6 {V : gV} {r p : Int} (n : Nat) : rAr V r p n 6 p.toNat = V 6 p.toNat + n := by
  induction n with
  | zero => show V 6 _ = V 6 _ + 0; omega
  | succ n ih => rw [rAr, uPut, vS_s, ih]; omega
