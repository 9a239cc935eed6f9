/-! PURE LAW: what bookings become; calls that end -/
theorem cnt_mono {f g : Nat → Int} (n : Nat) (h : ∀ i, i < n → f i = 3 ∨ f i = 4 → g i = 3 ∨ g i = 4) : cnt f n ≤ cnt g n := by
  induction n with
  | zero => exact Nat.le_refl _
  | succ n ih =>
    have := ih (fun i hi => h i (by omega))
    have h9 := h n (by omega)
    rw [cnt, cnt]
    by_cases a : f n = 3 ∨ f n = 4
    · rw [if_pos a, if_pos (h9 a)]; omega
    · rw [if_neg a]; omega
theorem cnt_lt {f g : Nat → Int} (n b : Nat) (hb : b < n) (h : ∀ i, i < n → f i = 3 ∨ f i = 4 → g i = 3 ∨ g i = 4) (h1 : ¬ (f b = 3 ∨ f b = 4)) (h2 : g b = 3 ∨ g b = 4) : cnt f n + 1 ≤ cnt g n := by
  induction n with
  | zero => omega
  | succ n ih =>
    have h9 := h n (by omega)
    rw [cnt, cnt]
    by_cases e : b = n
    · subst e
      have := cnt_mono b (fun i hi => h i (by omega))
      rw [if_neg h1, if_pos h2]; omega
    · have := ih (by omega) (fun i hi => h i (by omega))
      by_cases a : f n = 3 ∨ f n = 4
      · rw [if_pos a, if_pos (h9 a)]; omega
      · rw [if_neg a]; omega
theorem cnt_le {f : Nat → Int} (n : Nat) : cnt f n ≤ n := by
  induction n with
  | zero => exact Nat.le_refl _
  | succ n ih => rw [cnt]; split <;> omega
theorem cnt_c {f g : Nat → Int} (n : Nat) (h : ∀ i, i < n → f i = g i) : cnt f n = cnt g n := by
  induction n with
  | zero => rfl
  | succ n ih => rw [cnt, cnt, ih (fun i hi => h i (by omega)), h n (by omega)]
/-- U with f1 at k1 and f2 at k2 -/
def ov2 (U : gV) (k1 : Nat) (f1 : Nat → Int) (k2 : Nat) (f2 : Nat → Int) : gV := fun k i => if k = k1 then f1 i else if k = k2 then f2 i else U k i
def ov3 (U : gV) (k1 : Nat) (f1 : Nat → Int) (k2 : Nat) (f2 : Nat → Int) (k3 : Nat) (f3 : Nat → Int) : gV := fun k i => if k = k1 then f1 i else if k = k2 then f2 i else if k = k3 then f3 i else U k i
theorem uBk_id {W : gV} {b : Int} (n : Nat) (h : ∀ j : Nat, j < n → W 5 (W 24 (30 * b + (j : Int)).toNat).toNat = b) : uBk W b b n = W := by
  induction n with
  | zero => rfl
  | succ n ih =>
    rw [uBk, ih (fun j hj => h j (by omega))]
    exact (vS_id (h n (by omega)).symm).symm
theorem uBec_lt {U : gV} {b : Int} {x : Nat} (hx : x < 4) (h : ∀ j : Nat, (j : Int) < U 23 b.toNat → U 5 (U 24 (30 * b + (j : Int)).toNat).toNat = b) : uBec U b x = vS U 18 b.toNat (x : Int) := by
  unfold uBec
  rw [if_neg (by omega)]
  exact uBk_id _ (fun j hj => h j (by omega))
theorem uBk_m {W : gV} {b y : Int} {i : Nat} (n : Nat) : (∃ j : Nat, j < n ∧ i = (W 24 (30 * b + (j : Int)).toNat).toNat) → uBk W b y n 5 i = y := by
  induction n with
  | zero => rintro ⟨j, hj, -⟩; omega
  | succ n ih =>
    rintro ⟨j, hj, e⟩
    rw [uBk, vS_e]
    split
    · rfl
    · rename_i hne
      exact ih ⟨j, by (rcases Nat.lt_or_ge j n with q | q; exact q; exact absurd (by rw [show n = j by omega]; exact e) hne), e⟩
theorem uBk_nm {W : gV} {b y : Int} {i : Nat} (n : Nat) (h : ∀ j : Nat, j < n → ¬ i = (W 24 (30 * b + (j : Int)).toNat).toNat) : uBk W b y n 5 i = W 5 i := by
  induction n with
  | zero => rfl
  | succ n ih => rw [uBk, vS_i (h n (by omega)), ih (fun j hj => h j (by omega))]
theorem uBec_18e {U : gV} {b : Int} {x i : Nat} : uBec U b x 18 i = vS U 18 b.toNat (x : Int) 18 i := by
  unfold uBec
  rw [uBk_k (by decide)]
theorem uBec_ov {U : gV} {b : Int} {x : Nat} : uBec U b x = ov2 U 5 (uBec U b x 5) 18 (vS U 18 b.toNat (x : Int) 18) := by
  funext k i
  unfold ov2
  by_cases h5 : k = 5
  · subst h5; rw [if_pos rfl]
  · rw [if_neg h5]
    by_cases h8 : k = 18
    · subst h8; rw [if_pos rfl, uBec_18e]
    · rw [if_neg h8, uBec_k h8 h5]
section
variable {U V : gV}
/-- the wagons of a booking that doesn't promise any more -/
theorem uBec_5v (h : RR U V) {b : Int} {x : Nat} (hb : 0 ≤ b ∧ b < U 17 0) (hs : U 18 b.toNat < 4) (hx : x = 4 ∨ x = 5) {w : Int} (h0 : 0 ≤ w) (h1 : w < U 2 0) : uBec U b x 5 w.toNat = if U 5 w.toNat = b then -1 else U 5 w.toNat := by
  have g23 := h.i23 b hb.1 hb.2
  unfold uBec
  rw [if_pos hx]
  by_cases hm : U 5 w.toNat = b
  · rw [if_pos hm]
    obtain ⟨j, j0, j1, j2⟩ := h.bC w h0 h1 (by omega)
    rw [hm] at j1 j2
    refine uBk_m _ ⟨j.toNat, by omega, ?_⟩
    show w.toNat = (U 24 (30 * b + ((j.toNat : Nat) : Int)).toNat).toNat
    rw [show ((j.toNat : Nat) : Int) = j by omega, j2]
  · rw [if_neg hm]
    refine uBk_nm _ (fun j hj e => hm ?_)
    have e2 : w.toNat = (U 24 (30 * b + (j : Int)).toNat).toNat := e
    have g24 := h.i24 b (j : Int) hb.1 hb.2 (by omega) (by omega)
    have ga := h.bA b (j : Int) hb.1 hb.2 hs (by omega) (by omega)
    rw [e2, ga]
theorem RR.st (h : RR U V) {b x : Int} (hb : 0 ≤ b ∧ b < U 17 0) (hs : U 18 b.toNat < 4) (hx : 0 ≤ x ∧ x < 4) (hc : ∀ c : Int, 0 ≤ c → c < U 11 0 → U 15 c.toNat = 1 → U 16 c.toNat = b → x = 0) (ht : U 18 b.toNat = 3 → x = 3) (h1 : x = 1 → V 22 b.toNat = U 22 b.toNat) : RR (vS U 18 b.toNat x) (vS V 18 b.toNat x) := by
  refine RR.mk (e1 := h.e1) (e2 := h.e2) (e4 := h.e4) (e6 := h.e6) (e7 := h.e7) (e10 := h.e10) (e11 := h.e11) (e12 := h.e12) (e13 := h.e13) (e14 := h.e14) (e15 := h.e15) (e17 := h.e17) (e18 := vSf h.e18) (e19 := h.e19) (e20 := h.e20) (e21 := h.e21) (e23 := h.e23) (e24 := h.e24) (e25 := h.e25) (e26 := h.e26) (e27 := h.e27) (e28 := h.e28) (e29 := h.e29) (s1 := h.s1) (s2 := h.s2) (s11 := h.s11) (s17 := h.s17) (s25 := h.s25) (s33 := h.s33) (s41 := h.s41) (s42 := h.s42) (s43 := h.s43) (s45 := h.s45) (s46 := h.s46) (i3 := h.i3) (i4 := h.i4) (i5 := h.i5) (i6 := h.i6) (i7 := h.i7) (i8 := h.i8) (i9 := h.i9) (i30 := h.i30) (i10 := h.i10) (i13 := h.i13) (i14 := h.i14) (i15 := h.i15) (i16 := h.i16) (i31 := h.i31) (i32 := h.i32) (i18 := ?_) (i19 := h.i19) (i20 := h.i20) (i21 := h.i21) (i22 := h.i22) (i23 := h.i23) (i24 := h.i24) (i26 := h.i26) (i27 := h.i27) (i28 := h.i28) (i29 := h.i29) (i34 := h.i34) (r3 := h.r3) (r5 := ?_) (v5 := h.v5) (r8 := h.r8) (v8 := h.v8) (r9 := h.r9) (c9 := h.c9) (r16 := h.r16) (v16 := h.v16) (r22 := ?_) (v22 := h.v22) (o9 := h.o9) (oA := h.oA) (oC := h.oC) (oD := h.oD) (bA := ?_) (bD := ?_) (bB := ?_) (bC := h.bC) (tA := ?_) (tD := h.tD) (t27 := h.t27) (cA := ?_) (cD := h.cD) (u1 := h.u1) (nT := ?_) (rR := rR_of h.rR rfl rfl rfl rfl rfl rfl) (rA := rA_of h.rA rfl rfl rfl rfl rfl rfl rfl rfl rfl rfl)
  · intro j a c
    rw [vS_e]
    split
    · omega
    · exact h.i18 j a c
  · intro w a c
    show U 5 w.toNat = if V 5 w.toNat < 0 ∨ 4 ≤ vS U 18 b.toNat x 18 (V 5 w.toNat).toNat then -1 else V 5 w.toNat
    have g := h.r5 w a c
    rw [vS_e]
    by_cases hv : V 5 w.toNat < 0
    · rw [if_pos (Or.inl hv)] at g ⊢; exact g
    · by_cases e : (V 5 w.toNat).toNat = b.toNat
      · rw [if_pos e, if_neg (by omega)]
        rw [e, if_neg (by omega)] at g
        exact g
      · rw [if_neg e]; exact g
  · intro b9 a c hq
    rw [vS_e] at hq
    split at hq
    · rename_i e
      rw [e]; exact h1 hq
    · exact h.r22 b9 a c hq
  · intro b9 j a c hq
    rw [vS_e] at hq
    refine h.bA b9 j a c ?_
    split at hq
    · rename_i e
      rw [e]; exact hs
    · exact hq
  · intro b9 i j a c hq
    rw [vS_e] at hq
    refine h.bD b9 i j a c ?_
    split at hq
    · rename_i e
      rw [e]; exact hs
    · exact hq
  · intro w a c hq
    rw [vS_e]
    split
    · exact hx.2
    · exact h.bB w a c hq
  · intro r k a c d e f
    obtain ⟨g1, g2⟩ := h.tA r k a c d e f
    refine ⟨g1, ?_⟩
    rw [vS_e]
    split
    · rename_i q
      exact ht (by rw [← q]; exact g2)
    · exact g2
  · intro c9 a c d e
    rw [vS_e]
    split
    · rename_i q
      exact hc c9 a c d (by have : (U 16 c9.toNat).toNat = b.toNat := q; have : 0 ≤ U 16 c9.toNat := e; omega)
    · exact h.cA c9 a c d e
  · have g := h.nT
    have m := cnt_mono (f := U 18) (g := vS U 18 b.toNat x 18) (U 17 0).toNat (fun i hi q => by
      rw [vS_e]
      split
      · rename_i e
        rw [e] at q
        exact Or.inl (ht (by omega))
      · exact q)
    show U 25 0 ≤ (cnt (vS U 18 b.toNat x 18) (U 17 0).toNat : Int)
    omega
theorem RR.void (h : RR U V) {b : Int} {x : Nat} (hb : 0 ≤ b ∧ b < U 17 0) (hs : U 18 b.toNat < 4) (hx : x = 4 ∨ x = 5) (hc : ∀ c : Int, 0 ≤ c → c < U 11 0 → U 15 c.toNat = 1 → ¬ U 16 c.toNat = b) (ht : ∀ r k : Int, 0 ≤ r → r < U 25 0 → U 27 r.toNat = 0 → 0 ≤ k → k < U 28 r.toNat → ¬ U 5 (U 29 (6 * r + k).toNat).toNat = b) (hn : U 18 b.toNat = 3 → x = 4) : RR (uBec U b x) (vS V 18 b.toNat (x : Int)) := by
  have hf : ∀ w : Int, 0 ≤ w → w < U 2 0 → uBec U b x 5 w.toNat = if U 5 w.toNat = b then -1 else U 5 w.toNat := fun w a c => uBec_5v h hb hs hx a c
  rw [uBec_ov]
  obtain ⟨f, hF⟩ : ∃ f : Nat → Int, uBec U b x 5 = f := ⟨_, rfl⟩
  rw [hF] at hf ⊢
  refine RR.mk (e1 := h.e1) (e2 := h.e2) (e4 := h.e4) (e6 := h.e6) (e7 := h.e7) (e10 := h.e10) (e11 := h.e11) (e12 := h.e12) (e13 := h.e13) (e14 := h.e14) (e15 := h.e15) (e17 := h.e17) (e18 := vSf h.e18) (e19 := h.e19) (e20 := h.e20) (e21 := h.e21) (e23 := h.e23) (e24 := h.e24) (e25 := h.e25) (e26 := h.e26) (e27 := h.e27) (e28 := h.e28) (e29 := h.e29) (s1 := h.s1) (s2 := h.s2) (s11 := h.s11) (s17 := h.s17) (s25 := h.s25) (s33 := h.s33) (s41 := h.s41) (s42 := h.s42) (s43 := h.s43) (s45 := h.s45) (s46 := h.s46) (i3 := h.i3) (i4 := h.i4) (i5 := ?_) (i6 := h.i6) (i7 := h.i7) (i8 := h.i8) (i9 := h.i9) (i30 := h.i30) (i10 := h.i10) (i13 := h.i13) (i14 := h.i14) (i15 := h.i15) (i16 := h.i16) (i31 := h.i31) (i32 := h.i32) (i18 := ?_) (i19 := h.i19) (i20 := h.i20) (i21 := h.i21) (i22 := h.i22) (i23 := h.i23) (i24 := h.i24) (i26 := h.i26) (i27 := h.i27) (i28 := h.i28) (i29 := h.i29) (i34 := h.i34) (r3 := h.r3) (r5 := ?_) (v5 := h.v5) (r8 := h.r8) (v8 := h.v8) (r9 := h.r9) (c9 := h.c9) (r16 := h.r16) (v16 := h.v16) (r22 := ?_) (v22 := h.v22) (o9 := h.o9) (oA := h.oA) (oC := h.oC) (oD := h.oD) (bA := ?_) (bD := ?_) (bB := ?_) (bC := ?_) (tA := ?_) (tD := ?_) (t27 := h.t27) (cA := ?_) (cD := h.cD) (u1 := h.u1) (nT := ?_) (rR := rR_of h.rR rfl rfl rfl rfl rfl rfl) (rA := rA_of h.rA rfl rfl rfl rfl rfl rfl rfl rfl rfl rfl)
  · intro j a c
    show -1 ≤ f j.toNat ∧ f j.toNat < U 17 0
    have := h.i5 j a c
    rw [hf j a c]
    split <;> omega
  · intro j a c
    show 0 ≤ vS U 18 b.toNat (x : Int) 18 j.toNat ∧ vS U 18 b.toNat (x : Int) 18 j.toNat ≤ 5
    rw [vS_e]
    split
    · omega
    · exact h.i18 j a c
  · intro w a c
    show f w.toNat = if V 5 w.toNat < 0 ∨ 4 ≤ vS U 18 b.toNat (x : Int) 18 (V 5 w.toNat).toNat then -1 else V 5 w.toNat
    have g := h.r5 w a c
    rw [hf w a c, vS_e]
    by_cases hv : V 5 w.toNat < 0
    · rw [if_pos (Or.inl hv)] at g ⊢
      rw [g]; split <;> rfl
    · by_cases e : (V 5 w.toNat).toNat = b.toNat
      · rw [if_pos e, if_pos (by omega : V 5 w.toNat < 0 ∨ 4 ≤ (x : Int))]
        rw [e, if_neg (by omega)] at g
        rw [if_pos (by omega)]
      · rw [if_neg e]
        by_cases q : 4 ≤ U 18 (V 5 w.toNat).toNat
        · rw [if_pos (Or.inr q)] at g ⊢
          rw [g]; split <;> rfl
        · rw [if_neg (by omega)] at g ⊢
          rw [if_neg (by omega), g]
  · intro b9 a c hq
    have hq2 : vS U 18 b.toNat (x : Int) 18 b9.toNat = 1 := hq
    rw [vS_e] at hq2
    split at hq2
    · omega
    · exact h.r22 b9 a c hq2
  · intro b9 j a c hq d e
    have hq2 : vS U 18 b.toNat (x : Int) 18 b9.toNat < 4 := hq
    rw [vS_e] at hq2
    split at hq2
    · omega
    · rename_i ne
      have g := h.bA b9 j a c hq2 d e
      have i := h.i24 b9 j a c d e
      show f (U 24 (30 * b9 + j).toNat).toNat = b9
      rw [hf _ i.1 i.2, g, if_neg (by omega)]
  · intro b9 i j a c hq
    have hq2 : vS U 18 b.toNat (x : Int) 18 b9.toNat < 4 := hq
    rw [vS_e] at hq2
    split at hq2
    · omega
    · exact h.bD b9 i j a c hq2
  · intro w a c hq
    show vS U 18 b.toNat (x : Int) 18 (f w.toNat).toNat < 4
    have hq2 : 0 ≤ f w.toNat := hq
    rw [hf w a c] at hq2 ⊢
    split at hq2
    · omega
    · rename_i ne
      rw [if_neg ne, vS_i (by omega)]
      exact h.bB w a c hq2
  · intro w a c hq
    show ∃ j : Int, 0 ≤ j ∧ j < U 23 (f w.toNat).toNat ∧ U 24 (30 * f w.toNat + j).toNat = w
    have hq2 : 0 ≤ f w.toNat := hq
    rw [hf w a c] at hq2 ⊢
    split at hq2
    · omega
    · rename_i ne
      rw [if_neg ne]
      exact h.bC w a c hq2
  · intro r k a c d e f9
    obtain ⟨g1, g2⟩ := h.tA r k a c d e f9
    have i := h.i29 r k a c e f9
    have n := ht r k a c d e f9
    show 0 ≤ f (U 29 (6 * r + k).toNat).toNat ∧ vS U 18 b.toNat (x : Int) 18 (f (U 29 (6 * r + k).toNat).toNat).toNat = 3
    rw [hf _ i.1 i.2, if_neg n, vS_i (by omega)]
    exact ⟨g1, g2⟩
  · intro r r' k k' a c d a' c' d' e e1 e' e1' hq
    have i := h.i29 r k a c e e1
    have i' := h.i29 r' k' a' c' e' e1'
    have n := ht r k a c d e e1
    have n' := ht r' k' a' c' d' e' e1'
    have hq2 : f (U 29 (6 * r + k).toNat).toNat = f (U 29 (6 * r' + k').toNat).toNat := hq
    rw [hf _ i.1 i.2, hf _ i'.1 i'.2, if_neg n, if_neg n'] at hq2
    exact h.tD r r' k k' a c d a' c' d' e e1 e' e1' hq2
  · intro c9 a c d e
    show vS U 18 b.toNat (x : Int) 18 (U 16 c9.toNat).toNat = 0
    have e2 : 0 ≤ U 16 c9.toNat := e
    have := hc c9 a c d
    rw [vS_i (by omega)]
    exact h.cA c9 a c d e
  · have g := h.nT
    have m := cnt_mono (f := U 18) (g := vS U 18 b.toNat (x : Int) 18) (U 17 0).toNat (fun i hi q => by
      rw [vS_e]
      split
      · rename_i e
        rw [e] at q
        have := hn
        omega
      · exact q)
    show U 25 0 ≤ (cnt (vS U 18 b.toNat (x : Int) 18) (U 17 0).toNat : Int)
    omega
end
