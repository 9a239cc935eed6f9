/-! THE SYSTEM's picture: the state U (ids, numbers), the addresses A, what every live cell holds -/
abbrev gAd : Type := Nat → Nat → Nat
/-- a reference that may be null: ids below 0 are null -/
def rfA (A : gAd) (c : Nat) (x : Int) : Value := if x < 0 then .null else .ref (A c x.toNat)
theorem rfA_0 {A : gAd} {c : Nat} {x : Int} (h : x < 0) : rfA A c x = .null := if_pos h
theorem rfA_1 {A : gAd} {c : Nat} {x : Int} (h : ¬ x < 0) : rfA A c x = .ref (A c x.toNat) := if_neg h
abbrev refs (f : Nat → Option Nat) : (Nat → Int32) ⊕ (Nat → Int64) ⊕ (Nat → UInt32) ⊕ (Nat → UInt64) ⊕ (Nat → Option Nat) := .inr (.inr (.inr (.inr f)))
def sEv (U : gV) (e : Nat) : va_E := if U 34 e = 0 then .inr (9, [.int (iI (U 35 e)), .int (iI (U 36 e))]) else if U 34 e = 1 then .inr (12, [.int (iI (U 35 e)), .int (iI (U 36 e)), .int (iI (U 37 e))]) else if U 34 e = 2 then .inr (19, [.int (iI (U 35 e))]) else .inr (20, [.int (iI (U 35 e)), .int (iI (U 36 e))])
def hk (i : Nat) : Nat := match i with
  | 0 => 1
  | 1 => 2
  | _ => 5
def klo (i : Nat) : Nat := match i with
  | 2 => 1
  | _ => 0
def khi (i : Nat) : Nat := match i with
  | 0 => 1
  | _ => 2
/-- what lies at a tag -/
def sC (EV : gEV) (A : gAd) (U : gV) (t : gTag) : Option va_E := match t.1 with
  | 10 => if t.2 = 0 then some (.inr (0, [.ref (A 30 0), .ref (A 30 1), .ref (A 18 0), .ref (A 20 0), .ref (A 19 0), .ref (A 30 2), .ref (A 30 3), .ref (A 30 4), .ref (A 30 5), .int (iI (U 12 0)), .int (iI (U 1 0))])) else none
  | 11 => if (t.2 : Int) < U 41 0 then some (.inr (7, [.int (iI (t.2 : Int)), .int (iI (U 3 t.2)), .int (iI (U 4 t.2)), rfA A 12 (U 5 t.2)])) else none
  | 12 => if (t.2 : Int) < U 42 0 then some (.inr (16, [.int (iI (t.2 : Int)), .int (iI (U 20 t.2)), .int (iI (U 21 t.2)), .int (iI (U 19 t.2)), .ref (A 30 (10 + t.2)), .ref (EV.2.2.2 (10 + (U 18 t.2).toNat)), .int (iI (U 22 t.2))])) else none
  | 13 => if (t.2 : Int) < U 43 0 then some (.inr (15, [.int (iI (t.2 : Int)), .int (iI (U 13 t.2)), .int (iI (U 14 t.2)), .ref (A 30 (100 + t.2)), rfA A 12 (U 16 t.2), .int (iI (U 15 t.2))])) else none
  | 14 => if t.2 < 6 then some (.inr (5, [rfA A 13 (U 9 t.2), .int (iI (U 30 t.2))])) else none
  | 15 => if (t.2 : Int) < U 45 0 then some (.inr (18, [.ref (A 24 (15 + t.2)), .int (iI (U 26 t.2)), .int (iI (U 27 t.2))])) else none
  | 16 => if (t.2 : Int) < U 46 0 then some (sEv U t.2) else none
  | 17 => if t.2 < 4 then some (.inl (EV.2.1 1, 4, .inl (fun j => if j < 4 then iI (U 8 (4 * t.2 + j)) else 0))) else none
  | 18 => if t.2 = 0 then some (.inl (EV.2.1 6, 4, refs (fun j => if j < 4 then some (A 17 j) else none))) else none
  | 19 => if t.2 = 0 then some (.inl (EV.2.1 0, 3, .inl (fun j => iI (U 10 j)))) else none
  | 20 => if t.2 = 0 then some (.inr (3, [.ref (A 20 1), .null, .int (iI 3), .int (iI 3), .int (iI 12), .float 1061158912, .null, .null, .ref (A 20 2), .ref (A 20 4), .int (iI 0), .int (iI 0)])) else
      if t.2 = 1 then some (.inl (EV.2.1 4, 16, refs (fun j => if j = 1 then some (A 20 2) else if j = 2 then some (A 20 3) else if j = 5 then some (A 20 4) else none))) else
      if t.2 < 5 then some (.inr (6, [.int (iI (hk (t.2 - 2) : Int)), .ref (A 21 (t.2 - 2)), .ref (A 22 (t.2 - 2)), .null, if t.2 = 2 then .null else .ref (A 20 (t.2 - 1)), if t.2 = 4 then .null else .ref (A 20 (t.2 + 1))])) else none
  | 21 => if t.2 < 3 then some (.inr (4, [.int (iI (klo t.2 : Int)), .int (iI (khi t.2 : Int))])) else none
  | 22 => if t.2 < 3 then some (.inl (EV.2.1 3, 2, refs (fun j => if j < 2 then some (A 14 (2 * t.2 + j)) else none))) else none
  | _ => none
def TD1 (EV : gEV) (M : gM) (A : gAd) (U : gV) : Prop := ∀ (t : gTag) (e : va_E), sC EV A U t = some e → M (A t.1 t.2) = some (t, e)
/-- an ArrayList i at a: n things, at f -/
def gAL (EV : gEV) (M : gM) (i a n : Nat) (f : Nat → Nat) : Prop := ∃ d N p : Nat, M a = some ((30, i), .inr (1, [.int (iI (n : Int)), .ref (if n = 0 then EV.2.2.2 0 else d), .int (iI (n : Int))])) ∧
  (0 < n → n ≤ N ∧ N ≤ 108 ∧ M d = some ((1000 + p, i), .inl (EV.2.1 2, N, refs (fun j => if j < n then some (f j) else none))))
/-- a LinkedList i at a: n things, at f; m: how often changed; ns: its nodes -/
def gLn (M : gM) (i a n : Nat) (f : Nat → Nat) (m : Int) (ns : Nat → Nat) : Prop := n ≤ 6 ∧ inR m ∧ M a = some ((24, i), .inr (2, [.int (iI m), .int (iI (n : Int)), if n = 0 then .null else .ref (ns 0), if n = 0 then .null else .ref (ns (n - 1))])) ∧ kNs i 0 n n ns f M
def gLk (M : gM) (i a n : Nat) (f : Nat → Nat) : Prop := ∃ (m : Int) (ns : Nat → Nat), gLn M i a n f m ns
def alL (U : gV) (i : Nat) : Prop := i < 6 ∨ (10 ≤ i ∧ i < 100 ∧ (i : Int) - 10 < U 42 0) ∨ (100 ≤ i ∧ (i : Int) - 100 < U 43 0)
def alN (U : gV) (i : Nat) : Int := if i = 0 then 15 else if i = 1 then U 2 0 else if i = 2 then U 11 0 else if i = 3 then U 17 0 else if i = 4 then U 25 0 else if i = 5 then U 33 0 else if i < 100 then U 23 (i - 10) else U 31 (i - 100)
def alF (A : gAd) (U : gV) (i j : Nat) : Nat := if i = 0 then A 24 j else if i = 1 then A 11 j else if i = 2 then A 13 j else if i = 3 then A 12 j else if i = 4 then A 15 j else if i = 5 then A 16 j else if i < 100 then A 11 (U 24 (30 * (i - 10) + j)).toNat else A 14 (U 32 (2 * (i - 100) + j)).toNat
def llL (U : gV) (i : Nat) : Prop := i < 15 ∨ (i : Int) - 15 < U 45 0
def llN (U : gV) (i : Nat) : Int := if i < 15 then U 6 i else U 28 (i - 15)
def llF (A : gAd) (U : gV) (i j : Nat) : Nat := if i < 15 then A 11 (U 7 (6 * i + j)).toNat else A 11 (U 29 (6 * (i - 15) + j)).toNat
def TD (EV : gEV) (M : gM) (A : gAd) (U : gV) : Prop := TD1 EV M A U ∧ (∀ i, alL U i → gAL EV M i (A 30 i) (alN U i).toNat (alF A U i)) ∧ ∀ i, llL U i → gLk M i (A 24 i) (llN U i).toNat (llF A U i)
theorem sC_lt {EV : gEV} {A : gAd} {U : gV} {t : gTag} {e : va_E} (h : sC EV A U t = some e) : 10 ≤ t.1 ∧ t.1 < 23 := by
  unfold sC at h
  split at h
  all_goals first | (rename_i h1; rw [h1]; decide) | cases h
theorem gAL.fr {EV : gEV} {M M' : gM} {T : gTag → Prop} {i a n : Nat} {f : Nat → Nat} (h : gAL EV M i a n f) (hF : gFr T M M') (h1 : ¬ T (30, i)) (h2 : ∀ p, ¬ T (1000 + p, i)) : gAL EV M' i a n f := by
  obtain ⟨d, N, p, g1, g2⟩ := h
  exact ⟨d, N, p, hF _ _ _ g1 h1, fun hn => ⟨(g2 hn).1, (g2 hn).2.1, hF _ _ _ (g2 hn).2.2 (h2 p)⟩⟩
theorem gLn.fr {M M' : gM} {T : gTag → Prop} {i a n : Nat} {m : Int} {f ns : Nat → Nat} (h : gLn M i a n f m ns) (hF : gFr T M M') (h1 : ¬ T (24, i)) (h2 : ∀ p, p < 6 → ¬ T (25, 8 * i + p)) : gLn M' i a n f m ns := by
  obtain ⟨g0, g3, g1, g2⟩ := h
  exact ⟨g0, g3, hF _ _ _ g1 h1, fun p q1 q2 => hF _ _ _ (g2 p q1 q2) (h2 p (by omega))⟩
theorem gLk.fr {M M' : gM} {T : gTag → Prop} {i a n : Nat} {f : Nat → Nat} (h : gLk M i a n f) (hF : gFr T M M') (h1 : ¬ T (24, i)) (h2 : ∀ p, p < 6 → ¬ T (25, 8 * i + p)) : gLk M' i a n f := by
  obtain ⟨m, ns, h⟩ := h
  exact ⟨m, ns, h.fr hF h1 h2⟩
/-- what is known of a list only names its first n things -/
theorem gAL.cf {EV : gEV} {M : gM} {i a n : Nat} {f g : Nat → Nat} (h : gAL EV M i a n f) (hf : ∀ j, j < n → g j = f j) : gAL EV M i a n g := by
  obtain ⟨d, N, p, g1, g2⟩ := h
  refine ⟨d, N, p, g1, fun hn => ⟨(g2 hn).1, (g2 hn).2.1, ?_⟩⟩
  rw [(g2 hn).2.2]
  have : (fun j => if j < n then some (f j) else none) = fun j => if j < n then some (g j) else none := by
    funext j
    by_cases hj : j < n
    · rw [if_pos hj, if_pos hj, hf j hj]
    · rw [if_neg hj, if_neg hj]
  rw [this]
theorem gLk.cf {M : gM} {i a n : Nat} {f g : Nat → Nat} (h : gLk M i a n f) (hf : ∀ j, j < n → g j = f j) : gLk M i a n g := by
  obtain ⟨m, ns, g0, g3, g1, g2⟩ := h
  refine ⟨m, ns, g0, g3, g1, fun p q1 q2 => ?_⟩
  have := g2 p q1 q2
  unfold gNd at this ⊢
  rw [hf p q2]
  exact this
/-- changes at local tags leave the system as it is -/
def tLoc : gTag → Prop := fun t => 70 ≤ t.1 ∧ t.1 < 100
theorem TD.loc {EV : gEV} {M M' : gM} {A : gAd} {U : gV} {T : gTag → Prop} (h : TD EV M A U) (hF : gFr T M M') (hT : ∀ t, T t → tLoc t) : TD EV M' A U := by
  refine ⟨fun t e he => hF _ _ _ (h.1 t e he) (fun z => ?_), fun i hi => (h.2.1 i hi).fr hF (fun z => ?_) (fun p z => ?_), fun i hi => (h.2.2 i hi).fr hF (fun z => ?_) (fun p hp z => ?_)⟩
  · have h1 := hT _ z
    have h2 := sC_lt he
    unfold tLoc at h1
    omega
  · have h1 := hT _ z
    unfold tLoc at h1
    simp at h1
  · have h1 := hT _ z
    unfold tLoc at h1
    simp at h1
    omega
  · have h1 := hT _ z
    unfold tLoc at h1
    simp at h1
  · have h1 := hT _ z
    unfold tLoc at h1
    simp at h1
/-- one cell is written: U' says so, and says nothing else anew -/
theorem TD.upd {EV : gEV} {M : gM} {A : gAd} {U U' : gV} {t0 : gTag} {e0 e' : va_E} (h : TD EV M A U) (h0 : sC EV A U t0 = some e0) (h1 : sC EV A U' t0 = some e') (hs : ∀ t, t ≠ t0 → sC EV A U' t = sC EV A U t)
    (hl : (∀ i, alL U' i → alL U i) ∧ (∀ i, alN U' i = alN U i) ∧ (∀ i j, alF A U' i j = alF A U i j) ∧ (∀ i, llL U' i → llL U i) ∧ (∀ i, llN U' i = llN U i) ∧ ∀ i j, llF A U' i j = llF A U i j) : TD EV (mU M (A t0.1 t0.2) t0 e') A U' := by
  have hM := h.1 t0 e0 h0
  have hl0 := sC_lt h0
  have hF : gFr (tO t0) M (mU M (A t0.1 t0.2) t0 e') := gFr.up hM rfl
  refine ⟨fun t e he => ?_, fun i hi => ?_, fun i hi => ?_⟩
  · by_cases ht : t = t0
    · subst ht
      rw [h1] at he
      cases he
      exact mU_s
    · rw [hs t ht] at he
      exact hF _ _ _ (h.1 t e he) ht
  · rw [hl.2.1 i, show alF A U' i = alF A U i from funext (hl.2.2.1 i)]
    exact (h.2.1 i (hl.1 i hi)).fr hF (fun z => by have := congrArg Prod.fst z; simp at this; omega) (fun p z => by have := congrArg Prod.fst z; simp at this; omega)
  · rw [hl.2.2.2.2.1 i, show llF A U' i = llF A U i from funext (hl.2.2.2.2.2 i)]
    exact (h.2.2 i (hl.2.2.2.1 i hi)).fr hF (fun z => by have := congrArg Prod.fst z; simp at this; omega) (fun p hp z => by have := congrArg Prod.fst z; simp at this; omega)
