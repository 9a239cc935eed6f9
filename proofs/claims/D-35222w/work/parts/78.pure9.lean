/-! PURE LAW: what is found -/
/-- r is the least place d from lo on below hi (and below that of s0) where e holds, or s0 -/
def Bst (e : Int → Prop) (w : Int → Int) (s0 r : Int × Int) (lo hi : Int) : Prop := (r = s0 ∧ ∀ d, lo ≤ d → d < hi → d < s0.2 → ¬ e d) ∨ (∃ d, lo ≤ d ∧ d < hi ∧ d < s0.2 ∧ e d ∧ r = (w d, d) ∧ ∀ d', lo ≤ d' → d' < d → ¬ e d')
theorem Bst.uniq {e : Int → Prop} {w : Int → Int} {s0 r r' : Int × Int} {lo hi : Int} (h : Bst e w s0 r lo hi) (h' : Bst e w s0 r' lo hi) : r = r' := by
  rcases h with ⟨a, b⟩ | ⟨d, d1, d2, d3, d4, d5, d6⟩
  · rcases h' with ⟨a', b'⟩ | ⟨d, d1, d2, d3, d4, d5, d6⟩
    · rw [a, a']
    · exact absurd d4 (b d d1 d2 d3)
  · rcases h' with ⟨a', b'⟩ | ⟨c, c1, c2, c3, c4, c5, c6⟩
    · exact absurd d4 (b' d d1 d2 d3)
    · have : d = c := by
        rcases (by omega : d < c ∨ d = c ∨ c < d) with q | q | q
        · exact absurd d4 (c6 d d1 q)
        · exact q
        · exact absurd c4 (d6 c c1 q)
      subst this
      rw [d5, c5]
section
variable {U V : gV}
def elig (U : gV) (g a d : Int) : Prop := U 5 (uAt U a d).toNat < 0 ∧ uFit U g (uAt U a d)
theorem uFi_b {g a : Int} {s0 : Int × Int} (h6 : 0 ≤ U 6 a.toNat) (k : Nat) : Bst (elig U g a) (uAt U a) s0 (uFi U g a s0 k) 0 (if (k : Int) < U 6 a.toNat then (k : Int) else U 6 a.toNat) := by
  induction k with
  | zero =>
    refine Or.inl ⟨rfl, fun d d0 d1 _ => ?_⟩
    have : (if ((0 : Nat) : Int) < U 6 a.toNat then ((0 : Nat) : Int) else U 6 a.toNat) ≤ 0 := by split <;> omega
    omega
  | succ k ih =>
    have hh : ∀ x : Int, (if (x : Int) < U 6 a.toNat then x else U 6 a.toNat) ≤ U 6 a.toNat ∧ (if (x : Int) < U 6 a.toNat then x else U 6 a.toNat) ≤ x ∧ ((if (x : Int) < U 6 a.toNat then x else U 6 a.toNat) = x ∨ (if (x : Int) < U 6 a.toNat then x else U 6 a.toNat) = U 6 a.toNat) := fun x => by split <;> omega
    have k1 := hh (k : Int)
    have k2 := hh ((k + 1 : Nat) : Int)
    obtain ⟨m1, hm1⟩ : ∃ m : Int, (if ((k : Nat) : Int) < U 6 a.toNat then (k : Int) else U 6 a.toNat) = m := ⟨_, rfl⟩
    obtain ⟨m2, hm2⟩ : ∃ m : Int, (if ((k + 1 : Nat) : Int) < U 6 a.toNat then ((k + 1 : Nat) : Int) else U 6 a.toNat) = m := ⟨_, rfl⟩
    have g1 : m1 = if ((k : Nat) : Int) < U 6 a.toNat then (k : Int) else U 6 a.toNat := hm1.symm
    have g2 : m2 = if ((k + 1 : Nat) : Int) < U 6 a.toNat then ((k + 1 : Nat) : Int) else U 6 a.toNat := hm2.symm
    rw [hm1] at ih
    rw [hm2]
    rw [uFi]
    by_cases c : ((k : Int) < (uFi U g a s0 k).2 ∧ (k : Int) < U 6 a.toNat) ∧ U 5 (uAt U a k).toNat < 0 ∧ uFit U g (uAt U a k)
    · rw [if_pos c]
      have q1 : m1 = k := by rw [g1, if_pos c.1.2]
      have q2 : m2 = k + 1 := by rw [g2]; split <;> omega
      rcases ih with ⟨i1, i2⟩ | ⟨d, d1, d2, d3, d4, d5, d6⟩
      · rw [i1] at c
        exact Or.inr ⟨k, by omega, by omega, c.1.1, c.2, rfl, fun d' p p2 => i2 d' p (by omega) (by omega)⟩
      · rw [d5] at c
        have : (k : Int) < d := c.1.1
        omega
    · rw [if_neg c]
      rcases ih with ⟨i1, i2⟩ | ⟨d, d1, d2, d3, d4, d5, d6⟩
      · refine Or.inl ⟨i1, fun d d0 d1 d2 => ?_⟩
        by_cases e : d < m1
        · exact i2 d d0 e d2
        · have q1 : m1 = k ∧ (k : Int) < U 6 a.toNat ∧ d = k := by
            by_cases z : (k : Int) < U 6 a.toNat
            · rw [if_pos z] at g1
              have : m2 ≤ k + 1 := by rw [g2]; split <;> omega
              omega
            · rw [if_neg z] at g1
              have : m2 = U 6 a.toNat := by rw [g2, if_neg (by omega)]
              omega
          obtain ⟨z1, z2, z3⟩ := q1
          subst z3
          intro he
          exact c ⟨⟨by rw [i1]; exact d2, z2⟩, he⟩
      · refine Or.inr ⟨d, d1, ?_, d3, d4, d5, d6⟩
        have : m1 ≤ m2 := by rw [g1, g2]; split <;> split <;> omega
        omega
theorem fits_U (h : RR U V) {w g : Int} (hw : 0 ≤ w ∧ w < U 2 0) (hg : 0 ≤ g ∧ g ≤ 3) : fitsP V w g ↔ uFit U g w := by
  have e4 : V 4 w.toNat = U 4 w.toNat := h.f h.e4
  have i4 := h.i4 w hw.1 hw.2
  unfold fitsP uFit
  rw [e4]
  by_cases q : U 4 w.toNat = -1
  · exact ⟨fun _ => Or.inl q, fun _ => Or.inl q⟩
  · rw [h.r8 (U 4 w.toNat) g (by omega) (by omega) (by omega) (by omega)]
theorem mFi_b (h : RR U V) {g a : Int} (ha : 0 ≤ a ∧ a < 15) (hg : 0 ≤ g ∧ g ≤ 3) {s0 : Int × Int} (k : Nat) (hk : (k : Int) ≤ U 6 a.toNat) : Bst (elig U g a) (uAt U a) s0 (mFi V g a s0 k) (U 6 a.toNat - k) (U 6 a.toNat) := by
  induction k with
  | zero => exact Or.inl ⟨rfl, fun d d0 d1 _ => by omega⟩
  | succ k ih =>
    have ih := ih (by omega)
    obtain ⟨n, hn⟩ : ∃ n : Int, U 6 a.toNat = n := ⟨_, rfl⟩
    have e6 : V 6 a.toNat = n := (h.f h.e6).trans hn
    have ew : V 7 (6 * a + (k : Int)).toNat = uAt U a (n - 1 - k) := by
      unfold uAt
      rw [h.f h.e7, hn, show n - 1 - (n - 1 - (k : Int)) = (k : Int) by omega]
    have g7 : 0 ≤ uAt U a (n - 1 - k) ∧ uAt U a (n - 1 - k) < U 2 0 := by
      rw [← ew, h.f h.e7]
      exact h.i7 a (k : Int) ha.1 ha.2 (by omega) (by omega)
    have pU := (pr_U h g7).1
    have fU := fits_U h g7 hg
    rw [hn] at ih hk ⊢
    rw [mFi, ew, e6]
    have cc : (¬ isPr V (uAt U a (n - 1 - k)) ∧ fitsP V (uAt U a (n - 1 - k)) g ∧ n - 1 - (k : Int) < (mFi V g a s0 k).2) ↔ elig U g a (n - 1 - k) ∧ n - 1 - (k : Int) < (mFi V g a s0 k).2 := by
      unfold elig
      constructor
      · rintro ⟨x, y, z⟩
        exact ⟨⟨by have := mt pU.mpr x; omega, fU.mp y⟩, z⟩
      · rintro ⟨⟨x, y⟩, z⟩
        exact ⟨fun q => (pU.mp q) x, fU.mpr y, z⟩
    by_cases c : elig U g a (n - 1 - k) ∧ n - 1 - (k : Int) < (mFi V g a s0 k).2
    · rw [if_pos (cc.mpr c)]
      rcases ih with ⟨i1, i2⟩ | ⟨d, d1, d2, d3, d4, d5, d6⟩
      · rw [i1] at c
        exact Or.inr ⟨n - 1 - k, by omega, by omega, c.2, c.1, rfl, fun d' p p2 => by omega⟩
      · exact Or.inr ⟨n - 1 - k, by omega, by omega, by omega, c.1, rfl, fun d' p p2 => by omega⟩
    · rw [if_neg (fun z => c (cc.mp z))]
      rcases ih with ⟨i1, i2⟩ | ⟨d, d1, d2, d3, d4, d5, d6⟩
      · refine Or.inl ⟨i1, fun d d0 d1 d2 => ?_⟩
        by_cases e : n - k ≤ d
        · exact i2 d e d1 d2
        · have : d = n - 1 - k := by omega
          subst this
          intro he
          exact c ⟨he, by rw [i1]; exact d2⟩
      · refine Or.inr ⟨d, by omega, d2, d3, d4, d5, fun d' p p2 => ?_⟩
        by_cases e : n - k ≤ d'
        · exact d6 d' e p2
        · have : d' = n - 1 - k := by omega
          subst this
          intro he
          exact c ⟨he, by rw [d5]; exact p2⟩
theorem Fi_eq (h : RR U V) {g a : Int} (ha : 0 ≤ a ∧ a < 15) (hg : 0 ≤ g ∧ g ≤ 3) {s0 : Int × Int} : mFi V g a s0 (V 6 a.toNat).toNat = uFi U g a s0 6 := by
  have i6 := h.i6 a ha.1 ha.2
  have e6 : V 6 a.toNat = U 6 a.toNat := h.f h.e6
  have b1 := mFi_b h ha hg (s0 := s0) (U 6 a.toNat).toNat (by omega)
  have b2 := uFi_b (U := U) (g := g) (s0 := s0) i6.1 6
  rw [if_neg (by omega)] at b2
  rw [show U 6 a.toNat - (((U 6 a.toNat).toNat : Nat) : Int) = 0 by omega] at b1
  rw [e6]
  exact b1.uniq b2
theorem Fo_eq (h : RR U V) {y g : Int} (hy : 0 ≤ y ∧ y ≤ 2) (hg : 0 ≤ g ∧ g ≤ 3) (t : Nat) (ht : t ≤ 5) : mFo V y g t = uFo U y g t := by
  induction t with
  | zero => rfl
  | succ t ih => rw [mFo, uFo, ih (by omega), Fi_eq h (by omega) hg]
theorem Find_eq (h : RR U V) {y g : Int} (hy : 0 ≤ y ∧ y ≤ 2) (hg : 0 ≤ g ∧ g ≤ 3) : mFind V y g = uFind U y g := congrArg Prod.fst (Fo_eq h hy hg 5 (Nat.le_refl _))
/-- what is found isn't promised -/
theorem uFo_p (h : RR U V) {y g : Int} (hy : 0 ≤ y ∧ y ≤ 2) (t : Nat) (ht : t ≤ 5) : (uFo U y g t).1 = -1 ∨ ((0 ≤ (uFo U y g t).1 ∧ (uFo U y g t).1 < U 2 0) ∧ U 5 (uFo U y g t).1.toNat < 0) := by
  induction t with
  | zero => exact Or.inl rfl
  | succ t ih =>
    have ih := ih (by omega)
    have i6 := h.i6 (5 * y + (t : Int)) (by omega) (by omega)
    rw [uFo]
    have b := uFi_b (U := U) (g := g) (a := 5 * y + (t : Int)) (s0 := uFo U y g t) i6.1 6
    rw [if_neg (by omega)] at b
    rcases b with ⟨b1, -⟩ | ⟨d, d1, d2, d3, d4, d5, -⟩
    · rw [b1]; exact ih
    · rw [d5]
      have g7 := h.i7 (5 * y + (t : Int)) (U 6 (5 * y + (t : Int)).toNat - 1 - d) (by omega) (by omega) (by omega) (by omega)
      exact Or.inr ⟨g7, d4.1⟩
/-- n things apart among m -/
theorem pigeon (m : Nat) : ∀ (n : Nat) (f : Nat → Nat), (∀ i, i < n → f i < m) → (∀ i j, i < j → j < n → ¬ f i = f j) → n ≤ m := by
  induction m with
  | zero =>
    intro n f h1 _
    rcases Nat.eq_zero_or_pos n with q | q
    · omega
    · have := h1 0 q; omega
  | succ m ih =>
    intro n f h1 h2
    by_cases hx : ∃ i, i < n ∧ f i = m
    · obtain ⟨i, hi, e⟩ := hx
      have := ih (n - 1) (fun j => if j < i then f j else f (j + 1)) (fun j hj => by
        show (if j < i then f j else f (j + 1)) < m
        split
        · have a := h1 j (by omega)
          have b := h2 j i (by omega) hi
          omega
        · have a := h1 (j + 1) (by omega)
          have b := h2 i (j + 1) (by omega) (by omega)
          omega) (fun j k hjk hk => by
        show ¬ (if j < i then f j else f (j + 1)) = (if k < i then f k else f (k + 1))
        by_cases a : j < i
        · by_cases b : k < i
          · rw [if_pos a, if_pos b]; exact h2 j k hjk (by omega)
          · rw [if_pos a, if_neg b]; exact h2 j (k + 1) (by omega) (by omega)
        · rw [if_neg a, if_neg (by omega)]; exact h2 (j + 1) (k + 1) (by omega) (by omega))
      omega
    · have := ih n f (fun i hi => by
        have a := h1 i hi
        have b : ¬ f i = m := fun e => hx ⟨i, hi, e⟩
        omega) h2
      omega
/-- there is room for an unpromised wagon in a booking that promises -/
theorem room_U (h : RR U V) {b w : Int} (hb : 0 ≤ b ∧ b < U 17 0) (hs : U 18 b.toNat < 4) (hw : 0 ≤ w ∧ w < U 2 0) (hp : U 5 w.toNat < 0) : U 23 b.toNat < 30 := by
  have g23 := h.i23 b hb.1 hb.2
  have s2 := h.s2
  have p := pigeon (U 2 0).toNat ((U 23 b.toNat).toNat + 1) (fun j => if j < (U 23 b.toNat).toNat then (U 24 (30 * b + (j : Int)).toNat).toNat else w.toNat) (fun j hj => by
    show (if j < (U 23 b.toNat).toNat then (U 24 (30 * b + (j : Int)).toNat).toNat else w.toNat) < _
    split
    · have := h.i24 b (j : Int) hb.1 hb.2 (by omega) (by omega)
      omega
    · omega) (fun i j hij hj => by
    show ¬ (if i < (U 23 b.toNat).toNat then (U 24 (30 * b + (i : Int)).toNat).toNat else w.toNat) = (if j < (U 23 b.toNat).toNat then (U 24 (30 * b + (j : Int)).toNat).toNat else w.toNat)
    have gi := h.i24 b (i : Int) hb.1 hb.2 (by omega) (by omega)
    rw [if_pos (by omega)]
    split
    · have gj := h.i24 b (j : Int) hb.1 hb.2 (by omega) (by omega)
      have := h.bD b (i : Int) (j : Int) hb.1 hb.2 hs (by omega) (by omega) (by omega)
      omega
    · intro e
      have ga := h.bA b (i : Int) hb.1 hb.2 hs (by omega) (by omega)
      rw [e] at ga
      omega)
  omega
end
