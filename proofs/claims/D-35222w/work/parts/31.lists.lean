/-! THE JDK's lists over the whole picture: contracts by gAL, gLk -/
theorem GC.mono {l : Launch} {y : MethodName} {ws : List Cond} {d mc ms : Nat} {EV : gEV} {av : List Value} {M : gM} {post post' : Option Value → gM → Prop} {px px' : String → gM → Prop} (h : GC l y ws d mc ms EV av M post px) (hp : ∀ v M', post v M' → post' v M') (hx : ∀ E M', px E M' → px' E M') : GC l y ws d mc ms EV av M post' px' := by
  intro hl p e a1 a2 a3 s m args below b1 b2 b3 b4
  obtain ⟨n, o, h1, h2, h3, h4⟩ := h hl p e a1 a2 a3 s m args below b1 b2 b3 b4
  refine ⟨n, o, h1, h2, h3, ?_⟩
  rcases h4 with ⟨⟨⟨v, M', e1, e2, e3⟩, hF⟩, L⟩ | ⟨q, e1, E, ce, L, ⟨⟨M', g1, g2⟩, hF⟩, rest⟩
  · exact Or.inl ⟨⟨⟨v, M', e1, hp _ _ e2, e3⟩, hF⟩, L⟩
  · exact Or.inr ⟨q, e1, E, ce, L, ⟨⟨M', hx _ _ g1, g2⟩, hF⟩, rest⟩
theorem gNo.x {px : String → gM → Prop} : ∀ E M', gNo E M' → px E M' := fun _ _ h => h.elim
def tAL (i : Nat) : gTag → Prop := fun t => t = (30, i) ∨ (1000 ≤ t.1 ∧ t.2 = i)
theorem gFr.to {T S : gTag → Prop} {M M' : gM} (h : gFr T M M') (hs : ∀ t, T t → S t) : gFr S M M' := h.mono hs
theorem gL1 {M : gM} {a : Nat} {x : gTag × va_E} (h : M a = some x) : gL M [(a, x)] := fun y hy => by
  simp at hy
  subst hy
  exact h
theorem gL2 {M : gM} {a b : Nat} {x y : gTag × va_E} (h : M a = some x) (h2 : M b = some y) : gL M [(a, x), (b, y)] := fun y hy => by
  simp at hy
  rcases hy with rfl | rfl <;> assumption
theorem gL3 {M : gM} {a b c : Nat} {x y z : gTag × va_E} (h : M a = some x) (h2 : M b = some y) (h3 : M c = some z) : gL M [(a, x), (b, y), (c, z)] := fun y hy => by
  simp at hy
  rcases hy with rfl | rfl | rfl <;> assumption
section
variable (l : Launch) (EV : gEV) {M : gM} {i a n : Nat} {f : Nat → Nat}
theorem al_size (h : gAL EV M i a n f) : GC l yJ2_size (ws_ yJ2_size cJ2_size 1 (some .int)) 1 0 0 EV [.ref a] M (fun w M' => w = some (.int (iI (n : Int))) ∧ gFr tF M M') gNo := by
  obtain ⟨d, N, p, h1, h2⟩ := h
  refine (jc_J2_size l EV M trivial (gL1 h1)).mono (fun v M' ⟨L', ⟨e1, e2⟩, hL, hF⟩ => ⟨e1, hF⟩) gNo.x
theorem al_get (h : gAL EV M i a n f) {x : Int} (hx : 0 ≤ x ∧ x < n) (hn : n ≤ 100) : GC l yJ2_get (ws_ yJ2_get cJ2_get 2 (some (.object "java/lang/Object"))) 4 0 0 EV [.ref a, .int (iI x)] M (fun w M' => w = some (.ref (f x.toNat)) ∧ gFr tF M M') gNo := by
  obtain ⟨d, N, p, h1, h2⟩ := h
  obtain ⟨g1, g2, g3⟩ := h2 (by omega)
  rw [if_neg (by omega)] at h1
  refine (jc_J2_get l EV (x := x) (s0 := (n : Int)) (N := N) (y := f x.toNat) (f := fun j => if j < n then some (f j) else none) hx (by omega) (by show (if x.toNat < n then some (f x.toNat) else none) = _; rw [if_pos (by omega)]) M trivial (gL2 h1 g3)).mono (fun v M' ⟨L', ⟨e1, e2⟩, hL, hF⟩ => ⟨e1, hF⟩) gNo.x
/-- an iterator at q over the list a of n things, before the k-th -/
def itA (a n k : Nat) : va_E := .inr (14, [.int (iI (k : Int)), .int (iI ((k : Int) - 1)), .int (iI (n : Int)), .ref a])
theorem al_iter (h : gAL EV M i a n f) (u : gTag) (hu : 70 ≤ u.1) : GC l yJ2_iterator (ws_ yJ2_iterator cJ2_iterator 1 (some (.object "java/util/Iterator"))) 4 1 4 EV [.ref a] M (fun w M' => ∃ q : Nat, w = some (.ref q) ∧ M' q = some (u, itA a n 0) ∧ gFr (tO u) M M') gNo := by
  obtain ⟨d, N, p, h1, h2⟩ := h
  refine (jc_J2_iterator l EV u (fun e => by rw [e] at hu; simp at hu) M trivial (gL1 h1)).mono (fun v M' ⟨L', ⟨q, e1, e2⟩, hL, hF⟩ => ⟨q, e1, ?_, hF⟩) gNo.x
  subst e2
  exact hL.at (i := 0) rfl
theorem al_has (h : gAL EV M i a n f) (hn : n ≤ 100) {u : gTag} {q k : Nat} (hk : k ≤ n) (hq : M q = some (u, itA a n k)) : GC l yJ35_hasNext (ws_ yJ35_hasNext cJ35_hasNext 1 (some .boolean)) 1 0 0 EV [.ref q] M (fun w M' => w = some (.int (iI (bI (¬ (k : Int) = n)))) ∧ gFr tF M M') gNo := by
  obtain ⟨d, N, p, h1, h2⟩ := h
  exact (jc_J35_hasNext l EV (by omega) (by omega) M trivial (gL2 hq h1)).mono (fun v M' ⟨L', ⟨e1, e2⟩, hL, hF⟩ => ⟨e1, hF⟩) gNo.x
theorem al_next (h : gAL EV M i a n f) (hn : n ≤ 100) {u : gTag} (hu : 70 ≤ u.1 ∧ u.1 < 100) {q k : Nat} (hk : k < n) (hq : M q = some (u, itA a n k)) : GC l yJ35_next (ws_ yJ35_next cJ35_next 3 (some (.object "java/lang/Object"))) 2 0 0 EV [.ref q] M (fun w M' => w = some (.ref (f k)) ∧ M' q = some (u, itA a n (k + 1)) ∧ gFr (tO u) M M') gNo := by
  obtain ⟨d, N, p, h1, h2⟩ := h
  obtain ⟨g1, g2, g3⟩ := h2 (by omega)
  rw [if_neg (by omega)] at h1
  refine (jc_J35_next l EV (c0 := (k : Int)) (l0 := (k : Int) - 1) (m := (n : Int)) (s0 := (n : Int)) (N := N) (y := f k) (f := fun j => if j < n then some (f j) else none) (fun e => by rw [e] at hu; simp at hu) (fun e => by rw [e] at hu; simp at hu; omega) (by simp; omega) (by omega) (by omega) (by omega) (by show (if k < n then some (f k) else none) = _; rw [if_pos hk]) M trivial (gL3 hq h1 g3)).mono (fun v M' ⟨L', ⟨e1, e2⟩, hL, hF⟩ => ⟨e1, ?_, hF⟩) gNo.x
  subst e2
  have h9 := hL.at (i := 0) rfl
  unfold itA
  rw [show (((k + 1 : Nat) : Int) - 1) = (k : Int) by omega]
  exact h9
/-- a new list -/
theorem al_init {v0 v1 : Value} (h : M a = some ((30, i), .inr (1, [v0, v1, .int (iI 0)]))) (f : Nat → Nat) : GC l yJ2_init (ws_ yJ2_init cJ2_init 1 none) 3 0 0 EV [.ref a] M (fun w M' => w = none ∧ gAL EV M' i a 0 f ∧ gFr (tO (30, i)) M M') gNo := by
  refine (jc_J2_init l EV M trivial (gL1 h)).mono (fun v M' ⟨L', ⟨e1, e2⟩, hL, hF⟩ => ⟨e1, ?_, hF⟩) gNo.x
  subst e2
  exact ⟨0, 0, 0, hL.at (i := 0) rfl, fun h => by omega⟩
theorem tAL_2 {p : Nat} : ∀ t, tO2 (30, i) (1000 + p, i) t → tAL i t := fun t h => by
  rcases h with h | h
  · exact Or.inl h
  · exact Or.inr (by rw [h]; exact ⟨by show 1000 ≤ 1000 + p; omega, rfl⟩)
theorem al_add (h : gAL EV M i a n f) (hob : ∀ j, j < n → gOz M (f j)) {x : Nat} (hx : gOz M x) (hn : n ≤ 72) : GC l yJ2_add (ws_ yJ2_add cJ2_add 2 (some .boolean)) 8 1 1000 EV [.ref a, .ref x] M (fun w M' => w = some (.int (iI 1)) ∧ gAL EV M' i a (n + 1) (fun j => if j = n then x else f j) ∧ gFr (tAL i) M M') gNo := by
  obtain ⟨d, N, p, h1, h2⟩ := h
  by_cases h0 : n = 0
  · subst h0
    rw [if_pos rfl] at h1
    refine (jc_addA l EV (x := x) (t := (30, i)) (w := (1000 + p, i)) (m := 0) (by simp; omega) (Nat.le_refl 30) (by show 30 ≤ 1000 + p; omega) M ⟨(fun j y e => nomatch e), hx⟩ (gL1 h1)).mono (fun v M' ⟨L', ⟨q, e1, e2⟩, hL, hF⟩ => ⟨e1, ?_, hF.to tAL_2⟩) gNo.x
    subst e2
    refine ⟨q, 10, p, hL.at (i := 0) rfl, fun _ => ⟨by omega, by omega, ?_⟩⟩
    have h9 := hL.at (i := 1) rfl
    rw [h9]
    have : va_up (fun _ => none) 0 (some x) = fun j => if j < 0 + 1 then some (if j = 0 then x else f j) else none := by
      funext j
      unfold va_up
      by_cases hj : j = 0
      · subst hj; simp
      · simp [hj]
    rw [this]
  · obtain ⟨g1, g2, g3⟩ := h2 (by omega)
    rw [if_neg h0] at h1
    have hK : kOx (fun j => if j < n then some (f j) else none) x M := ⟨fun j y e => by
      by_cases hj : j < n
      · simp [hj] at e
        rw [← e]; exact hob j hj
      · simp [hj] at e, hx⟩
    have hup : va_up (fun j => if j < n then some (f j) else none) n (some x) = fun j => if j < n + 1 then some (if j = n then x else f j) else none := by
      funext j
      unfold va_up
      by_cases hj : j = n
      · subst hj; simp
      · by_cases hj2 : j < n
        · simp [hj, hj2, show j < n + 1 by omega]
        · simp [hj, hj2, show ¬ j < n + 1 by omega]
    by_cases hnN : n < N
    · refine (jc_addB l EV (x := x) (t := (30, i)) (u := (1000 + p, i)) (m := (n : Int)) (s0 := (n : Int)) (N := N) (f := fun j => if j < n then some (f j) else none) (by simp; omega) (Nat.le_refl 30) (by show 30 ≤ 1000 + p; omega) (by omega) g2 M hK (gL2 h1 g3)).mono (fun v M' ⟨L', ⟨e1, e2⟩, hL, hF⟩ => ⟨e1, ?_, hF.to tAL_2⟩) gNo.x
      subst e2
      refine ⟨d, N, p, ?_, fun _ => ⟨by omega, g2, ?_⟩⟩
      · rw [if_neg (by omega)]; exact hL.at (i := 0) rfl
      · rw [← hup]; exact hL.at (i := 1) rfl
    · have hNn : N = n := by omega
      subst hNn
      refine (jc_addC l EV (x := x) (t := (30, i)) (u := (1000 + p, i)) (w := (1000 + (p + 1), i)) (m := (N : Int)) (N := N) (f := fun j => if j < N then some (f j) else none) (by simp; omega) (by simp; omega) (by simp) (Nat.le_refl 30) (by show 30 ≤ 1000 + (p + 1); omega) (by omega) M hK (gL2 h1 g3)).mono (fun v M' ⟨L', ⟨q, N9, e1, e3, e4, e2⟩, hL, hF⟩ => ⟨e1, ?_, hF.to tAL_2⟩) gNo.x
      subst e2
      refine ⟨q, N9, p + 1, ?_, fun _ => ⟨by omega, e4, ?_⟩⟩
      · rw [if_neg (by omega)]; exact hL.at (i := 1) rfl
      · rw [← hup]
        have h9 := hL.at (i := 0) rfl
        have e9 : (fun j => if j < N then (if j < N then some (f j) else none) else none) = fun j => if j < N then some (f j) else none := by
          funext j
          by_cases hj : j < N <;> simp [hj]
        rw [h9, e9]
end
