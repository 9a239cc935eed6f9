/-! PURE LAW: a call -/
def zU (U : gV) (f : Nat → Int) (c0 : Nat) (c y n x0 x1 e : Int) : gV := fun k i => if k = 9 then f i else vS (vS (vS (vS (vS (vS (vS (vS (vS U 13 c0 c) 14 c0 y) 15 c0 1) 16 c0 (-1)) 31 c0 n) 32 (2 * c0) x0) 32 (2 * c0 + 1) x1) 43 0 e) 11 0 e k i
def zV (V : gV) (g : Nat → Int) (c0 : Nat) (c y e : Int) : gV := fun k i => if k = 9 then g i else vS (vS (vS (vS (vS V 13 c0 c) 14 c0 y) 15 c0 1) 16 c0 (-1)) 11 0 e k i
section
variable {U V : gV}
theorem RR.call (h : RR U V) {f g : Nat → Int} {c y n x0 x1 : Int} (hc : 0 ≤ c ∧ c ≤ 5) (hy : 0 ≤ y ∧ y ≤ 2) (h60 : U 11 0 < 60) (hno : ∀ c9 : Int, 0 ≤ c9 → c9 < U 11 0 → U 15 c9.toNat = 1 → ¬ U 13 c9.toNat = c) (hN : n = 0 ∨ n = 1 ∨ n = 2) (hf : ∀ k : Int, 0 ≤ k → k < 6 → f k.toNat = if (1 ≤ n ∧ k = x0) ∨ (2 ≤ n ∧ k = x1) then U 11 0 else U 9 k.toNat) (hg : ∀ k : Int, 0 ≤ k → k < 6 → g k.toNat = if (1 ≤ n ∧ k = x0) ∨ (2 ≤ n ∧ k = x1) then U 11 0 else V 9 k.toNat) (h0 : 1 ≤ n → (0 ≤ x0 ∧ x0 < 6) ∧ U 9 x0.toNat = -1 ∧ ¬ U 30 x0.toNat = 1) (h1 : 2 ≤ n → (0 ≤ x1 ∧ x1 < 6) ∧ U 9 x1.toNat = -1 ∧ ¬ U 30 x1.toNat = 1 ∧ ¬ x0 = x1) : RR (zU U f (U 11 0).toNat c y n x0 x1 (U 11 0 + 1)) (zV V g (U 11 0).toNat c y (U 11 0 + 1)) := by
  have s11 := h.s11
  have s17 := h.s17
  refine RR.mk (e1 := h.e1) (e2 := h.e2) (e4 := h.e4) (e6 := h.e6) (e7 := h.e7) (e10 := h.e10) (e11 := funext fun i => by show vS U 11 0 (U 11 0 + 1) 11 i = vS V 11 0 (U 11 0 + 1) 11 i; rw [vSf h.e11]) (e12 := h.e12) (e13 := funext fun i => by show vS U 13 (U 11 0).toNat c 13 i = vS V 13 (U 11 0).toNat c 13 i; rw [vSf h.e13]) (e14 := funext fun i => by show vS U 14 (U 11 0).toNat y 14 i = vS V 14 (U 11 0).toNat y 14 i; rw [vSf h.e14]) (e15 := funext fun i => by show vS U 15 (U 11 0).toNat 1 15 i = vS V 15 (U 11 0).toNat 1 15 i; rw [vSf h.e15]) (e17 := h.e17) (e18 := h.e18) (e19 := h.e19) (e20 := h.e20) (e21 := h.e21) (e23 := h.e23) (e24 := h.e24) (e25 := h.e25) (e26 := h.e26) (e27 := h.e27) (e28 := h.e28) (e29 := h.e29) (s1 := h.s1) (s2 := h.s2) (s11 := ?_) (s17 := h.s17) (s25 := h.s25) (s33 := h.s33) (s41 := h.s41) (s42 := h.s42) (s43 := ?_) (s45 := h.s45) (s46 := h.s46) (i3 := h.i3) (i4 := h.i4) (i5 := h.i5) (i6 := h.i6) (i7 := h.i7) (i8 := h.i8) (i9 := ?_) (i30 := h.i30) (i10 := h.i10) (i13 := ?_) (i14 := ?_) (i15 := ?_) (i16 := ?_) (i31 := ?_) (i32 := ?_) (i18 := h.i18) (i19 := h.i19) (i20 := h.i20) (i21 := h.i21) (i22 := h.i22) (i23 := h.i23) (i24 := h.i24) (i26 := h.i26) (i27 := h.i27) (i28 := h.i28) (i29 := h.i29) (i34 := h.i34) (r3 := h.r3) (r5 := h.r5) (v5 := h.v5) (r8 := h.r8) (v8 := h.v8) (r9 := ?_) (c9 := ?_) (r16 := ?_) (v16 := ?_) (r22 := h.r22) (v22 := h.v22) (o9 := ?_) (oA := ?_) (oC := ?_) (oD := ?_) (bA := h.bA) (bD := h.bD) (bB := h.bB) (bC := h.bC) (tA := h.tA) (tD := h.tD) (t27 := h.t27) (cA := ?_) (cD := ?_) (u1 := ?_) (nT := h.nT) (rR := rR_of h.rR rfl rfl rfl rfl rfl rfl) (rA := rA_of h.rA rfl rfl rfl rfl rfl rfl rfl rfl rfl rfl)
  · show 0 ≤ U 11 0 + 1 ∧ U 11 0 + 1 ≤ 60
    omega
  · show U 11 0 + 1 = U 11 0 + 1
    rfl
  · intro j a b
    show -1 ≤ f j.toNat ∧ f j.toNat < U 11 0 + 1
    have := h.i9 j a b
    rw [hf j a b]
    split <;> omega
  · intro j a b
    show 0 ≤ vS U 13 (U 11 0).toNat c 13 j.toNat ∧ vS U 13 (U 11 0).toNat c 13 j.toNat ≤ 5
    have b2 : j < U 11 0 + 1 := b
    rw [vS_e]
    split
    · exact hc
    · exact h.i13 j a (by omega)
  · intro j a b
    show 0 ≤ vS U 14 (U 11 0).toNat y 14 j.toNat ∧ vS U 14 (U 11 0).toNat y 14 j.toNat ≤ 2
    have b2 : j < U 11 0 + 1 := b
    rw [vS_e]
    split
    · exact hy
    · exact h.i14 j a (by omega)
  · intro j a b
    show vS U 15 (U 11 0).toNat 1 15 j.toNat = 0 ∨ vS U 15 (U 11 0).toNat 1 15 j.toNat = 1
    have b2 : j < U 11 0 + 1 := b
    rw [vS_e]
    split
    · exact Or.inr rfl
    · exact h.i15 j a (by omega)
  · intro j a b
    show -1 ≤ vS U 16 (U 11 0).toNat (-1) 16 j.toNat ∧ vS U 16 (U 11 0).toNat (-1) 16 j.toNat < U 17 0
    have b2 : j < U 11 0 + 1 := b
    rw [vS_e]
    split
    · omega
    · exact h.i16 j a (by omega)
  · intro j a b
    show 0 ≤ vS U 31 (U 11 0).toNat n 31 j.toNat ∧ vS U 31 (U 11 0).toNat n 31 j.toNat ≤ 2
    have b2 : j < U 11 0 + 1 := b
    rw [vS_e]
    split
    · omega
    · exact h.i31 j a (by omega)
  · intro c9 k a b e e1
    have b2 : c9 < U 11 0 + 1 := b
    have e2 : k < vS U 31 (U 11 0).toNat n 31 c9.toNat := e1
    show 0 ≤ vS (vS U 32 (2 * (U 11 0).toNat) x0) 32 (2 * (U 11 0).toNat + 1) x1 32 (2 * c9 + k).toNat ∧ vS (vS U 32 (2 * (U 11 0).toNat) x0) 32 (2 * (U 11 0).toNat + 1) x1 32 (2 * c9 + k).toNat < 6
    rw [vS_e] at e2
    split at e2
    · rw [vS_e, vS_e]
      rcases (by omega : k = 0 ∨ k = 1) with rfl | rfl
      · rw [if_neg (by omega), if_pos (by omega)]; exact (h0 (by omega)).1
      · rw [if_pos (by omega)]; exact (h1 (by omega)).1
    · have := h.i31 c9 a (by omega)
      rw [vS_i (by omega), vS_i (by omega)]
      exact h.i32 c9 k a (by omega) e e2
  · intro k a b
    show g k.toNat = if U 30 k.toNat = 1 then -2 else f k.toNat
    have r := h.r9 k a b
    rw [hg k a b, hf k a b]
    by_cases q : (1 ≤ n ∧ k = x0) ∨ (2 ≤ n ∧ k = x1)
    · have : ¬ U 30 k.toNat = 1 := by rcases q with ⟨q1, q2⟩ | ⟨q1, q2⟩; (rw [q2]; exact (h0 q1).2.2); (rw [q2]; exact (h1 q1).2.2.1)
      rw [if_pos q, if_pos q, if_neg this]
    · rw [if_neg q, if_neg q]; exact r
  · intro k a b q
    have q1 : U 30 k.toNat = 1 := q
    show f k.toNat = -1
    rw [hf k a b, if_neg]
    · exact h.c9 k a b q1
    · rintro (⟨q2, q3⟩ | ⟨q2, q3⟩)
      · rw [q3] at q1; exact (h0 q2).2.2 q1
      · rw [q3] at q1; exact (h1 q2).2.2.1 q1
  · intro c9 a b d
    show vS V 16 (U 11 0).toNat (-1) 16 c9.toNat = vS U 16 (U 11 0).toNat (-1) 16 c9.toNat
    have d2 : vS U 15 (U 11 0).toNat 1 15 c9.toNat = 1 := d
    have b2 : c9 < U 11 0 + 1 := b
    rw [vS_e] at d2
    rw [vS_e, vS_e]
    split
    · rfl
    · rename_i m
      rw [if_neg m] at d2
      exact h.r16 c9 a (by omega) d2
  · intro j a b
    show -1 ≤ vS V 16 (U 11 0).toNat (-1) 16 j.toNat ∧ vS V 16 (U 11 0).toNat (-1) 16 j.toNat < U 17 0
    have b2 : j < U 11 0 + 1 := b
    rw [vS_e]
    split
    · omega
    · exact h.v16 j a (by omega)
  · intro k a b q
    have q2 : 0 ≤ f k.toNat := q
    show vS U 15 (U 11 0).toNat 1 15 (f k.toNat).toNat = 1
    have i := h.i9 k a b
    rw [hf k a b] at q2 ⊢
    split at q2
    · rename_i m
      rw [if_pos m, vS_s]
    · rename_i m
      rw [if_neg m, vS_i (by omega)]
      exact h.o9 k a b q2
  · intro c9 j a b d e e1
    have d2 : vS U 15 (U 11 0).toNat 1 15 c9.toNat = 1 := d
    have b2 : c9 < U 11 0 + 1 := b
    have e2 : j < vS U 31 (U 11 0).toNat n 31 c9.toNat := e1
    show f (vS (vS U 32 (2 * (U 11 0).toNat) x0) 32 (2 * (U 11 0).toNat + 1) x1 32 (2 * c9 + j).toNat).toNat = c9
    rw [vS_e] at d2 e2
    split at e2
    · rename_i m
      rw [vS_e, vS_e]
      rcases (by omega : j = 0 ∨ j = 1) with rfl | rfl
      · rw [if_neg (by omega), if_pos (by omega), hf x0 (h0 (by omega)).1.1 (h0 (by omega)).1.2, if_pos (Or.inl ⟨by omega, rfl⟩)]; omega
      · rw [if_pos (by omega), hf x1 (h1 (by omega)).1.1 (h1 (by omega)).1.2, if_pos (Or.inr ⟨by omega, rfl⟩)]; omega
    · rename_i m
      rw [if_neg m] at d2
      have i31 := h.i31 c9 a (by omega)
      have i32 := h.i32 c9 j a (by omega) e e2
      have g9 := h.oA c9 j a (by omega) d2 e e2
      rw [vS_i (by omega), vS_i (by omega), hf _ i32.1 i32.2, if_neg]
      · exact g9
      · rintro (⟨q1, q2⟩ | ⟨q1, q2⟩)
        · rw [q2] at g9; have := (h0 q1).2.1; omega
        · rw [q2] at g9; have := (h1 q1).2.1; omega
  · intro c9 k a b d e e1 q
    have d2 : vS U 15 (U 11 0).toNat 1 15 c9.toNat = 1 := d
    have b2 : c9 < U 11 0 + 1 := b
    have q2 : f k.toNat = c9 := q
    have i := h.i9 k e e1
    show ∃ j : Int, 0 ≤ j ∧ j < vS U 31 (U 11 0).toNat n 31 c9.toNat ∧ vS (vS U 32 (2 * (U 11 0).toNat) x0) 32 (2 * (U 11 0).toNat + 1) x1 32 (2 * c9 + j).toNat = k
    rw [hf k e e1] at q2
    rw [vS_e] at d2
    rw [vS_e]
    by_cases m : c9.toNat = (U 11 0).toNat
    · rw [if_pos m]
      split at q2
      · rename_i z
        rcases z with ⟨z1, z2⟩ | ⟨z1, z2⟩
        · refine ⟨0, by omega, by omega, ?_⟩
          rw [vS_e, vS_e, if_neg (by omega), if_pos (by omega), z2]
        · refine ⟨1, by omega, by omega, ?_⟩
          rw [vS_e, if_pos (by omega), z2]
      · omega
    · rw [if_neg m] at d2 ⊢
      rw [if_neg (by intro z; rw [if_pos z] at q2; omega)] at q2
      have i31 := h.i31 c9 a (by omega)
      obtain ⟨j, j0, j1, j2⟩ := h.oC c9 k a (by omega) d2 e e1 q2
      refine ⟨j, j0, j1, ?_⟩
      rw [vS_i (by omega), vS_i (by omega)]
      exact j2
  · intro c9 a b d q
    have d2 : vS U 15 (U 11 0).toNat 1 15 c9.toNat = 1 := d
    have b2 : c9 < U 11 0 + 1 := b
    have q2 : vS U 31 (U 11 0).toNat n 31 c9.toNat = 2 := q
    show ¬ vS (vS U 32 (2 * (U 11 0).toNat) x0) 32 (2 * (U 11 0).toNat + 1) x1 32 (2 * c9 + 0).toNat = vS (vS U 32 (2 * (U 11 0).toNat) x0) 32 (2 * (U 11 0).toNat + 1) x1 32 (2 * c9 + 1).toNat
    rw [vS_e] at d2 q2
    by_cases m : c9.toNat = (U 11 0).toNat
    · rw [if_pos m] at q2
      rw [vS_e, vS_e, if_neg (by omega), if_pos (by omega), vS_e, if_pos (by omega)]
      exact (h1 (by omega)).2.2.2
    · rw [if_neg m] at d2 q2
      rw [vS_i (by omega), vS_i (by omega), vS_i (by omega), vS_i (by omega)]
      exact h.oD c9 a (by omega) d2 q2
  · intro c9 a b d
    have d2 : vS U 15 (U 11 0).toNat 1 15 c9.toNat = 1 := d
    have b2 : c9 < U 11 0 + 1 := b
    show 0 ≤ vS U 16 (U 11 0).toNat (-1) 16 c9.toNat → U 18 (vS U 16 (U 11 0).toNat (-1) 16 c9.toNat).toNat = 0
    rw [vS_e] at d2
    rw [vS_e]
    split
    · exact fun z => absurd z (by decide)
    · rename_i m
      rw [if_neg m] at d2
      exact h.cA c9 a (by omega) d2
  · intro c9 c8 a b d a' b' d'
    have d2 : vS U 15 (U 11 0).toNat 1 15 c9.toNat = 1 := d
    have b2 : c9 < U 11 0 + 1 := b
    have d2' : vS U 15 (U 11 0).toNat 1 15 c8.toNat = 1 := d'
    have b2' : c8 < U 11 0 + 1 := b'
    show 0 ≤ vS U 16 (U 11 0).toNat (-1) 16 c9.toNat → vS U 16 (U 11 0).toNat (-1) 16 c9.toNat = vS U 16 (U 11 0).toNat (-1) 16 c8.toNat → c9 = c8
    rw [vS_e] at d2 d2'
    rw [vS_e, vS_e]
    by_cases m : c9.toNat = (U 11 0).toNat
    · rw [if_pos m]; exact fun z => absurd z (by decide)
    · by_cases m' : c8.toNat = (U 11 0).toNat
      · rw [if_neg m, if_pos m']; exact fun z z2 => by omega
      · rw [if_neg m] at d2 ⊢
        rw [if_neg m'] at d2' ⊢
        exact h.cD c9 c8 a (by omega) d2 a' (by omega) d2'
  · intro c9 c8 a b d a' b' d'
    have d2 : vS U 15 (U 11 0).toNat 1 15 c9.toNat = 1 := d
    have b2 : c9 < U 11 0 + 1 := b
    have d2' : vS U 15 (U 11 0).toNat 1 15 c8.toNat = 1 := d'
    have b2' : c8 < U 11 0 + 1 := b'
    show vS U 13 (U 11 0).toNat c 13 c9.toNat = vS U 13 (U 11 0).toNat c 13 c8.toNat → c9 = c8
    rw [vS_e] at d2 d2'
    rw [vS_e, vS_e]
    by_cases m : c9.toNat = (U 11 0).toNat
    · by_cases m' : c8.toNat = (U 11 0).toNat
      · exact fun _ => by omega
      · rw [if_pos m, if_neg m']
        rw [if_neg m'] at d2'
        exact fun z => absurd z.symm (hno c8 a' (by omega) d2')
    · by_cases m' : c8.toNat = (U 11 0).toNat
      · rw [if_neg m, if_pos m']
        rw [if_neg m] at d2
        exact fun z => absurd z (hno c9 a (by omega) d2)
      · rw [if_neg m] at d2 ⊢
        rw [if_neg m'] at d2' ⊢
        exact h.u1 c9 c8 a (by omega) d2 a' (by omega) d2'
end
