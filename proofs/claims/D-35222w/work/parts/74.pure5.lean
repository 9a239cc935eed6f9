/-! PURE LAW: confirming, resuming, cancelling, hanging up, cutting, time -/
theorem vS_comm {V : gV} {k k' i i' : Nat} {x y : Int} (h : k ≠ k') : vS (vS V k i x) k' i' y = vS (vS V k' i' y) k i x := by
  funext a b
  unfold vS
  by_cases e : a = k ∧ b = i
  · by_cases e' : a = k' ∧ b = i'
    · exact absurd (e.1.symm.trans e'.1) h
    · rw [if_neg e', if_pos e, if_pos e]
  · rw [if_neg e]
    by_cases e' : a = k' ∧ b = i'
    · rw [if_pos e', if_neg e]
    · rw [if_neg e', if_neg e]
theorem uEo_vS {W : gV} {c x : Int} {k i : Nat} (h9 : k ≠ 9) (h32 : k ≠ 32) (n : Nat) : uEo (vS W k i x) c n = vS (uEo W c n) k i x := by
  induction n with
  | zero => rfl
  | succ n ih =>
    rw [uEo, uEo, ih, vS_comm (k := k) h9]
    rw [vS_k (fun e => h32 e.symm)]
theorem uEnd_vS {W : gV} {c x : Int} {k i : Nat} (h9 : k ≠ 9) (h15 : k ≠ 15) (h16 : k ≠ 16) (h31 : k ≠ 31) (h32 : k ≠ 32) : uEnd (vS W k i x) c = vS (uEnd W c) k i x := by
  unfold uEnd
  rw [vS_comm (k := k) h15, vS_comm (k := k) h16, uEo_vS h9 h32, vS_k (fun e => h31 e.symm)]
theorem uBk_uEnd {W : gV} {b c y : Int} (n : Nat) : uEnd (uBk W b y n) c = uBk (uEnd W c) b y n := by
  induction n with
  | zero => rfl
  | succ n ih =>
    rw [uBk, uBk, uEnd_vS (by decide) (by decide) (by decide) (by decide) (by decide), ih, uEnd_k (by decide) (by decide) (by decide)]
theorem uBec_uEnd {U : gV} {b c : Int} {x : Nat} : uEnd (uBec U b x) c = uBec (uEnd U c) b x := by
  unfold uBec
  rw [uBk_uEnd, uEnd_vS (by decide) (by decide) (by decide) (by decide) (by decide), uEnd_k (by decide) (by decide) (by decide)]
theorem uEo_m {W : gV} {c : Int} {i : Nat} (n : Nat) : (∃ j : Nat, j < n ∧ i = (W 32 (2 * c + (j : Int)).toNat).toNat) → uEo W c n 9 i = -1 := by
  induction n with
  | zero => rintro ⟨j, hj, -⟩; omega
  | succ n ih =>
    rintro ⟨j, hj, e⟩
    rw [uEo, vS_e]
    split
    · rfl
    · rename_i hne
      exact ih ⟨j, by (rcases Nat.lt_or_ge j n with q | q; exact q; exact absurd (by rw [show n = j by omega]; exact e) hne), e⟩
theorem uEo_nm {W : gV} {c : Int} {i : Nat} (n : Nat) (h : ∀ j : Nat, j < n → ¬ i = (W 32 (2 * c + (j : Int)).toNat).toNat) : uEo W c n 9 i = W 9 i := by
  induction n with
  | zero => rfl
  | succ n ih => rw [uEo, vS_i (h n (by omega)), ih (fun j hj => h j (by omega))]
theorem uEnd_ov {U : gV} {c : Int} : uEnd U c = ov3 U 9 (uEnd U c 9) 15 (vS U 15 c.toNat 0 15) 16 (vS U 16 c.toNat (-1) 16) := by
  funext k i
  unfold ov3
  by_cases h9 : k = 9
  · subst h9; rw [if_pos rfl]
  · rw [if_neg h9]
    by_cases h15 : k = 15
    · subst h15
      rw [if_pos rfl, uEnd, uEo_k (by decide), vS_k (by decide)]
    · rw [if_neg h15]
      by_cases h16 : k = 16
      · subst h16
        rw [if_pos rfl, uEnd, uEo_k (by decide)]
        rfl
      · rw [if_neg h16, uEnd_k h9 h15 h16]
theorem mEn_v {W : gV} {c : Int} (n k : Nat) (hk : k < n) : mEn W c n 9 k = if W 9 k = c then -1 else W 9 k := by
  induction n with
  | zero => omega
  | succ n ih =>
    rw [mEn]
    show vS (mEn W c n) 9 n (if mEn W c n 9 n = c then -1 else mEn W c n 9 n) 9 k = _
    rw [vS_e]
    by_cases e : k = n
    · subst e
      have q : mEn W c k 9 k = W 9 k := mEn_9 k (Nat.le_refl _)
      rw [if_pos rfl, q]
    · rw [if_neg e, ih (by omega)]
theorem mEnd_ov {V : gV} {c : Int} : mEnd V c = ov2 V 9 (mEnd V c 9) 15 (vS V 15 c.toNat 0 15) := by
  funext k i
  unfold ov2
  by_cases h9 : k = 9
  · subst h9; rw [if_pos rfl]
  · rw [if_neg h9]
    by_cases h15 : k = 15
    · subst h15
      rw [if_pos rfl, mEnd, mEn_k (by decide)]
    · rw [if_neg h15, mEnd_k h9 h15]
section
variable {U V : gV}
theorem uEnd_9 (h : RR U V) {c : Int} (hc : 0 ≤ c ∧ c < U 11 0) (hg : U 15 c.toNat = 1) {k : Int} (h0 : 0 ≤ k) (h1 : k < 6) : uEnd U c 9 k.toNat = if U 9 k.toNat = c then -1 else U 9 k.toNat := by
  have g31 := h.i31 c hc.1 hc.2
  unfold uEnd
  by_cases hm : U 9 k.toNat = c
  · rw [if_pos hm]
    obtain ⟨j, j0, j1, j2⟩ := h.oC c k hc.1 hc.2 hg h0 h1 hm
    refine uEo_m _ ⟨j.toNat, by omega, ?_⟩
    show k.toNat = (U 32 (2 * c + ((j.toNat : Nat) : Int)).toNat).toNat
    rw [show ((j.toNat : Nat) : Int) = j by omega, j2]
  · rw [if_neg hm]
    refine uEo_nm _ (fun j hj e => hm ?_)
    have e2 : k.toNat = (U 32 (2 * c + (j : Int)).toNat).toNat := e
    rw [e2, h.oA c (j : Int) hc.1 hc.2 hg (by omega) (by omega)]
theorem mEnd_9 {c k : Int} (h0 : 0 ≤ k) (h1 : k < 6) : mEnd V c 9 k.toNat = if V 9 k.toNat = c then -1 else V 9 k.toNat := mEn_v 6 k.toNat (by omega)
theorem RR.p16 (h : RR U V) {c y : Int} (hc : 0 ≤ c ∧ c < U 11 0) (hy : -1 ≤ y ∧ y < U 17 0) (hs : 0 ≤ y → U 18 y.toNat = 0) (hu : 0 ≤ y → ∀ c9 : Int, 0 ≤ c9 → c9 < U 11 0 → U 15 c9.toNat = 1 → ¬ U 16 c9.toNat = y) : RR (vS U 16 c.toNat y) (vS V 16 c.toNat y) := by
  refine RR.mk (e1 := h.e1) (e2 := h.e2) (e4 := h.e4) (e6 := h.e6) (e7 := h.e7) (e10 := h.e10) (e11 := h.e11) (e12 := h.e12) (e13 := h.e13) (e14 := h.e14) (e15 := h.e15) (e17 := h.e17) (e18 := h.e18) (e19 := h.e19) (e20 := h.e20) (e21 := h.e21) (e23 := h.e23) (e24 := h.e24) (e25 := h.e25) (e26 := h.e26) (e27 := h.e27) (e28 := h.e28) (e29 := h.e29) (s1 := h.s1) (s2 := h.s2) (s11 := h.s11) (s17 := h.s17) (s25 := h.s25) (s33 := h.s33) (s41 := h.s41) (s42 := h.s42) (s43 := h.s43) (s45 := h.s45) (s46 := h.s46) (i3 := h.i3) (i4 := h.i4) (i5 := h.i5) (i6 := h.i6) (i7 := h.i7) (i8 := h.i8) (i9 := h.i9) (i30 := h.i30) (i10 := h.i10) (i13 := h.i13) (i14 := h.i14) (i15 := h.i15) (i16 := ?_) (i31 := h.i31) (i32 := h.i32) (i18 := h.i18) (i19 := h.i19) (i20 := h.i20) (i21 := h.i21) (i22 := h.i22) (i23 := h.i23) (i24 := h.i24) (i26 := h.i26) (i27 := h.i27) (i28 := h.i28) (i29 := h.i29) (i34 := h.i34) (r3 := h.r3) (r5 := h.r5) (v5 := h.v5) (r8 := h.r8) (v8 := h.v8) (r9 := h.r9) (c9 := h.c9) (r16 := ?_) (v16 := ?_) (r22 := h.r22) (v22 := h.v22) (o9 := h.o9) (oA := h.oA) (oC := h.oC) (oD := h.oD) (bA := h.bA) (bD := h.bD) (bB := h.bB) (bC := h.bC) (tA := h.tA) (tD := h.tD) (t27 := h.t27) (cA := ?_) (cD := ?_) (u1 := h.u1) (nT := h.nT) (rR := rR_of h.rR rfl rfl rfl rfl rfl rfl) (rA := rA_of h.rA rfl rfl rfl rfl rfl rfl rfl rfl rfl rfl)
  · intro j a b
    rw [vS_e]
    split
    · exact hy
    · exact h.i16 j a b
  · intro j a b d
    rw [vS_e, vS_e]
    split
    · rfl
    · exact h.r16 j a b d
  · intro j a b
    rw [vS_e]
    split
    · exact hy
    · exact h.v16 j a b
  · intro j a b d
    rw [vS_e]
    split
    · exact fun e => hs e
    · exact h.cA j a b d
  · intro j j' a b d a' b' d'
    rw [vS_e, vS_e]
    intro e
    by_cases q : j.toNat = c.toNat
    · by_cases q' : j'.toNat = c.toNat
      · intro _; omega
      · rw [if_pos q] at e ⊢
        rw [if_neg q']
        intro e2; exact absurd e2.symm (hu e j' a' b' d')
    · by_cases q' : j'.toNat = c.toNat
      · rw [if_neg q] at e ⊢
        rw [if_pos q']
        intro e2; exact absurd e2 (hu (by omega) j a b d)
      · rw [if_neg q] at e ⊢
        rw [if_neg q']
        exact h.cD j j' a b d a' b' d' e
theorem RR.p22 (h : RR U V) {b x : Int} (hx : 0 ≤ x ∧ x ≤ 10010) : RR (vS U 22 b.toNat x) (vS V 22 b.toNat x) := by
  refine RR.mk (e1 := h.e1) (e2 := h.e2) (e4 := h.e4) (e6 := h.e6) (e7 := h.e7) (e10 := h.e10) (e11 := h.e11) (e12 := h.e12) (e13 := h.e13) (e14 := h.e14) (e15 := h.e15) (e17 := h.e17) (e18 := h.e18) (e19 := h.e19) (e20 := h.e20) (e21 := h.e21) (e23 := h.e23) (e24 := h.e24) (e25 := h.e25) (e26 := h.e26) (e27 := h.e27) (e28 := h.e28) (e29 := h.e29) (s1 := h.s1) (s2 := h.s2) (s11 := h.s11) (s17 := h.s17) (s25 := h.s25) (s33 := h.s33) (s41 := h.s41) (s42 := h.s42) (s43 := h.s43) (s45 := h.s45) (s46 := h.s46) (i3 := h.i3) (i4 := h.i4) (i5 := h.i5) (i6 := h.i6) (i7 := h.i7) (i8 := h.i8) (i9 := h.i9) (i30 := h.i30) (i10 := h.i10) (i13 := h.i13) (i14 := h.i14) (i15 := h.i15) (i16 := h.i16) (i31 := h.i31) (i32 := h.i32) (i18 := h.i18) (i19 := h.i19) (i20 := h.i20) (i21 := h.i21) (i22 := ?_) (i23 := h.i23) (i24 := h.i24) (i26 := h.i26) (i27 := h.i27) (i28 := h.i28) (i29 := h.i29) (i34 := h.i34) (r3 := h.r3) (r5 := h.r5) (v5 := h.v5) (r8 := h.r8) (v8 := h.v8) (r9 := h.r9) (c9 := h.c9) (r16 := h.r16) (v16 := h.v16) (r22 := ?_) (v22 := ?_) (o9 := h.o9) (oA := h.oA) (oC := h.oC) (oD := h.oD) (bA := h.bA) (bD := h.bD) (bB := h.bB) (bC := h.bC) (tA := h.tA) (tD := h.tD) (t27 := h.t27) (cA := h.cA) (cD := h.cD) (u1 := h.u1) (nT := h.nT) (rR := rR_of h.rR rfl rfl rfl rfl rfl rfl) (rA := rA_of h.rA rfl rfl rfl rfl rfl rfl rfl rfl rfl rfl)
  · intro j a c
    rw [vS_e]
    split
    · exact hx
    · exact h.i22 j a c
  · intro j a c d
    rw [vS_e, vS_e]
    split
    · rfl
    · exact h.r22 j a c d
  · intro j
    rw [vS_e]
    split
    · exact hx
    · exact h.v22 j
theorem RR.p1 (h : RR U V) {x : Int} (hx : 0 ≤ x ∧ x ≤ 10000) : RR (vS U 1 0 x) (vS V 1 0 x) := by
  refine RR.mk (e1 := vSf h.e1) (e2 := h.e2) (e4 := h.e4) (e6 := h.e6) (e7 := h.e7) (e10 := h.e10) (e11 := h.e11) (e12 := h.e12) (e13 := h.e13) (e14 := h.e14) (e15 := h.e15) (e17 := h.e17) (e18 := h.e18) (e19 := h.e19) (e20 := h.e20) (e21 := h.e21) (e23 := h.e23) (e24 := h.e24) (e25 := h.e25) (e26 := h.e26) (e27 := h.e27) (e28 := h.e28) (e29 := h.e29) (s1 := by rw [vS_s]; exact hx) (s2 := h.s2) (s11 := h.s11) (s17 := h.s17) (s25 := h.s25) (s33 := h.s33) (s41 := h.s41) (s42 := h.s42) (s43 := h.s43) (s45 := h.s45) (s46 := h.s46) (i3 := h.i3) (i4 := h.i4) (i5 := h.i5) (i6 := h.i6) (i7 := h.i7) (i8 := h.i8) (i9 := h.i9) (i30 := h.i30) (i10 := h.i10) (i13 := h.i13) (i14 := h.i14) (i15 := h.i15) (i16 := h.i16) (i31 := h.i31) (i32 := h.i32) (i18 := h.i18) (i19 := h.i19) (i20 := h.i20) (i21 := h.i21) (i22 := h.i22) (i23 := h.i23) (i24 := h.i24) (i26 := h.i26) (i27 := h.i27) (i28 := h.i28) (i29 := h.i29) (i34 := h.i34) (r3 := h.r3) (r5 := h.r5) (v5 := h.v5) (r8 := h.r8) (v8 := h.v8) (r9 := h.r9) (c9 := h.c9) (r16 := h.r16) (v16 := h.v16) (r22 := h.r22) (v22 := h.v22) (o9 := h.o9) (oA := h.oA) (oC := h.oC) (oD := h.oD) (bA := h.bA) (bD := h.bD) (bB := h.bB) (bC := h.bC) (tA := h.tA) (tD := h.tD) (t27 := h.t27) (cA := h.cA) (cD := h.cD) (u1 := h.u1) (nT := h.nT) (rR := rR_of h.rR rfl rfl rfl rfl rfl rfl) (rA := rA_of h.rA rfl rfl rfl rfl rfl rfl rfl rfl rfl rfl)
theorem RR.cut (h : RR U V) {t : Int} (ht : 0 ≤ t ∧ t < 6) (hc : U 9 t.toNat = -1) : RR (vS U 30 t.toNat 1) (vS V 9 t.toNat (-2)) := by
  refine RR.mk (e1 := h.e1) (e2 := h.e2) (e4 := h.e4) (e6 := h.e6) (e7 := h.e7) (e10 := h.e10) (e11 := h.e11) (e12 := h.e12) (e13 := h.e13) (e14 := h.e14) (e15 := h.e15) (e17 := h.e17) (e18 := h.e18) (e19 := h.e19) (e20 := h.e20) (e21 := h.e21) (e23 := h.e23) (e24 := h.e24) (e25 := h.e25) (e26 := h.e26) (e27 := h.e27) (e28 := h.e28) (e29 := h.e29) (s1 := h.s1) (s2 := h.s2) (s11 := h.s11) (s17 := h.s17) (s25 := h.s25) (s33 := h.s33) (s41 := h.s41) (s42 := h.s42) (s43 := h.s43) (s45 := h.s45) (s46 := h.s46) (i3 := h.i3) (i4 := h.i4) (i5 := h.i5) (i6 := h.i6) (i7 := h.i7) (i8 := h.i8) (i9 := h.i9) (i30 := ?_) (i10 := h.i10) (i13 := h.i13) (i14 := h.i14) (i15 := h.i15) (i16 := h.i16) (i31 := h.i31) (i32 := h.i32) (i18 := h.i18) (i19 := h.i19) (i20 := h.i20) (i21 := h.i21) (i22 := h.i22) (i23 := h.i23) (i24 := h.i24) (i26 := h.i26) (i27 := h.i27) (i28 := h.i28) (i29 := h.i29) (i34 := h.i34) (r3 := h.r3) (r5 := h.r5) (v5 := h.v5) (r8 := h.r8) (v8 := h.v8) (r9 := ?_) (c9 := ?_) (r16 := h.r16) (v16 := h.v16) (r22 := h.r22) (v22 := h.v22) (o9 := h.o9) (oA := h.oA) (oC := h.oC) (oD := h.oD) (bA := h.bA) (bD := h.bD) (bB := h.bB) (bC := h.bC) (tA := h.tA) (tD := h.tD) (t27 := h.t27) (cA := h.cA) (cD := h.cD) (u1 := h.u1) (nT := h.nT) (rR := rR_of h.rR rfl rfl rfl rfl rfl rfl) (rA := rA_of h.rA rfl rfl rfl rfl rfl rfl rfl rfl rfl rfl)
  · intro j a b
    rw [vS_e]
    split
    · exact Or.inr rfl
    · exact h.i30 j a b
  · intro k a b
    rw [vS_e, vS_e]
    by_cases e : k.toNat = t.toNat
    · rw [if_pos e, if_pos e, if_pos rfl]
    · rw [if_neg e, if_neg e]; exact h.r9 k a b
  · intro k a b hk
    rw [vS_e] at hk
    split at hk
    · rename_i e
      show U 9 k.toNat = -1
      rw [e]; exact hc
    · exact h.c9 k a b hk
theorem RR.end (h : RR U V) {c : Int} (hc : 0 ≤ c ∧ c < U 11 0) (hg : U 15 c.toNat = 1) : RR (uEnd U c) (mEnd V c) := by
  have hf : ∀ k : Int, 0 ≤ k → k < 6 → uEnd U c 9 k.toNat = if U 9 k.toNat = c then -1 else U 9 k.toNat := fun k a b => uEnd_9 h hc hg a b
  have hv : ∀ k : Int, 0 ≤ k → k < 6 → mEnd V c 9 k.toNat = if V 9 k.toNat = c then -1 else V 9 k.toNat := fun k a b => mEnd_9 a b
  rw [uEnd_ov, mEnd_ov]
  obtain ⟨f, hF⟩ : ∃ f : Nat → Int, uEnd U c 9 = f := ⟨_, rfl⟩
  obtain ⟨g, hG⟩ : ∃ g : Nat → Int, mEnd V c 9 = g := ⟨_, rfl⟩
  rw [hF] at hf ⊢
  rw [hG] at hv ⊢
  refine RR.mk (e1 := h.e1) (e2 := h.e2) (e4 := h.e4) (e6 := h.e6) (e7 := h.e7) (e10 := h.e10) (e11 := h.e11) (e12 := h.e12) (e13 := h.e13) (e14 := h.e14) (e15 := vSf h.e15) (e17 := h.e17) (e18 := h.e18) (e19 := h.e19) (e20 := h.e20) (e21 := h.e21) (e23 := h.e23) (e24 := h.e24) (e25 := h.e25) (e26 := h.e26) (e27 := h.e27) (e28 := h.e28) (e29 := h.e29) (s1 := h.s1) (s2 := h.s2) (s11 := h.s11) (s17 := h.s17) (s25 := h.s25) (s33 := h.s33) (s41 := h.s41) (s42 := h.s42) (s43 := h.s43) (s45 := h.s45) (s46 := h.s46) (i3 := h.i3) (i4 := h.i4) (i5 := h.i5) (i6 := h.i6) (i7 := h.i7) (i8 := h.i8) (i9 := ?_) (i30 := h.i30) (i10 := h.i10) (i13 := h.i13) (i14 := h.i14) (i15 := ?_) (i16 := ?_) (i31 := h.i31) (i32 := h.i32) (i18 := h.i18) (i19 := h.i19) (i20 := h.i20) (i21 := h.i21) (i22 := h.i22) (i23 := h.i23) (i24 := h.i24) (i26 := h.i26) (i27 := h.i27) (i28 := h.i28) (i29 := h.i29) (i34 := h.i34) (r3 := h.r3) (r5 := h.r5) (v5 := h.v5) (r8 := h.r8) (v8 := h.v8) (r9 := ?_) (c9 := ?_) (r16 := ?_) (v16 := h.v16) (r22 := h.r22) (v22 := h.v22) (o9 := ?_) (oA := ?_) (oC := ?_) (oD := ?_) (bA := h.bA) (bD := h.bD) (bB := h.bB) (bC := h.bC) (tA := h.tA) (tD := h.tD) (t27 := h.t27) (cA := ?_) (cD := ?_) (u1 := ?_) (nT := h.nT) (rR := rR_of h.rR rfl rfl rfl rfl rfl rfl) (rA := rA_of h.rA rfl rfl rfl rfl rfl rfl rfl rfl rfl rfl)
  · intro j a b
    show -1 ≤ f j.toNat ∧ f j.toNat < U 11 0
    have := h.i9 j a b
    have := h.s11
    rw [hf j a b]
    split <;> omega
  · intro j a b
    show vS U 15 c.toNat 0 15 j.toNat = 0 ∨ vS U 15 c.toNat 0 15 j.toNat = 1
    rw [vS_e]
    split
    · exact Or.inl rfl
    · exact h.i15 j a b
  · intro j a b
    show -1 ≤ vS U 16 c.toNat (-1) 16 j.toNat ∧ vS U 16 c.toNat (-1) 16 j.toNat < U 17 0
    have := h.i16 j a b
    rw [vS_e]
    split <;> omega
  · intro k a b
    show g k.toNat = if U 30 k.toNat = 1 then -2 else f k.toNat
    have r := h.r9 k a b
    rw [hv k a b, hf k a b]
    by_cases q : U 30 k.toNat = 1
    · rw [if_pos q] at r ⊢
      rw [r, if_neg (by omega)]
    · rw [if_neg q] at r ⊢
      rw [r]
  · intro k a b q
    show f k.toNat = -1
    rw [hf k a b, h.c9 k a b q]
    split <;> rfl
  · intro j a b d
    have d2 : vS U 15 c.toNat 0 15 j.toNat = 1 := d
    rw [vS_e] at d2
    split at d2
    · exact absurd d2 (by decide)
    · rename_i n
      show V 16 j.toNat = vS U 16 c.toNat (-1) 16 j.toNat
      rw [vS_i n]
      exact h.r16 j a b d2
  · intro k a b q
    have q2 : 0 ≤ f k.toNat := q
    show vS U 15 c.toNat 0 15 (f k.toNat).toNat = 1
    rw [hf k a b] at q2 ⊢
    split at q2
    · exact absurd q2 (by decide)
    · rename_i n
      rw [if_neg n, vS_i (by omega)]
      exact h.o9 k a b q2
  · intro c9 j a b d e e1
    have d2 : vS U 15 c.toNat 0 15 c9.toNat = 1 := d
    rw [vS_e] at d2
    split at d2
    · exact absurd d2 (by decide)
    · rename_i n
      have i := h.i32 c9 j a b e e1
      have g9 := h.oA c9 j a b d2 e e1
      show f (U 32 (2 * c9 + j).toNat).toNat = c9
      rw [hf _ i.1 i.2, g9, if_neg (by omega)]
  · intro c9 k a b d e e1 q
    have d2 : vS U 15 c.toNat 0 15 c9.toNat = 1 := d
    rw [vS_e] at d2
    split at d2
    · exact absurd d2 (by decide)
    · rename_i n
      have q2 : f k.toNat = c9 := q
      rw [hf k e e1] at q2
      refine h.oC c9 k a b d2 e e1 ?_
      split at q2
      · omega
      · exact q2
  · intro c9 a b d
    have d2 : vS U 15 c.toNat 0 15 c9.toNat = 1 := d
    rw [vS_e] at d2
    split at d2
    · exact absurd d2 (by decide)
    · exact h.oD c9 a b d2
  · intro c9 a b d
    have d2 : vS U 15 c.toNat 0 15 c9.toNat = 1 := d
    rw [vS_e] at d2
    split at d2
    · exact absurd d2 (by decide)
    · rename_i n
      show 0 ≤ vS U 16 c.toNat (-1) 16 c9.toNat → U 18 (vS U 16 c.toNat (-1) 16 c9.toNat).toNat = 0
      rw [vS_i n]
      exact h.cA c9 a b d2
  · intro j j' a b d a' b' d'
    have d2 : vS U 15 c.toNat 0 15 j.toNat = 1 := d
    have d2' : vS U 15 c.toNat 0 15 j'.toNat = 1 := d'
    rw [vS_e] at d2 d2'
    split at d2
    · exact absurd d2 (by decide)
    · split at d2'
      · exact absurd d2' (by decide)
      · rename_i n n'
        show 0 ≤ vS U 16 c.toNat (-1) 16 j.toNat → vS U 16 c.toNat (-1) 16 j.toNat = vS U 16 c.toNat (-1) 16 j'.toNat → j = j'
        rw [vS_i n, vS_i n']
        exact h.cD j j' a b d2 a' b' d2'
  · intro j j' a b d a' b' d'
    have d2 : vS U 15 c.toNat 0 15 j.toNat = 1 := d
    have d2' : vS U 15 c.toNat 0 15 j'.toNat = 1 := d'
    rw [vS_e] at d2 d2'
    split at d2
    · exact absurd d2 (by decide)
    · split at d2'
      · exact absurd d2' (by decide)
      · exact h.u1 j j' a b d2 a' b' d2'
/-- of a call that goes on: alike in both -/
theorem goes_U (h : RR U V) {c : Int} (hc : 0 ≤ c ∧ c < U 11 0) (hg : ¬ U 15 c.toNat = 0) : U 15 c.toNat = 1 ∧ V 15 c.toNat = 1 ∧ V 16 c.toNat = U 16 c.toNat ∧ (-1 ≤ U 16 c.toNat ∧ U 16 c.toNat < U 17 0) := by
  have g15 : U 15 c.toNat = 1 := by have := h.i15 c hc.1 hc.2; omega
  exact ⟨g15, (h.f h.e15).trans g15, h.r16 c hc.1 hc.2 g15, h.i16 c hc.1 hc.2⟩
theorem bA_n (h : RR U V) {b : Int} (hb : 0 ≤ b ∧ b < U 17 0) (hs : U 18 b.toNat < 4) : ∀ j : Nat, (j : Int) < U 23 b.toNat → U 5 (U 24 (30 * b + (j : Int)).toNat).toNat = b := fun j hj => h.bA b (j : Int) hb.1 hb.2 hs (by omega) hj
theorem p_conf0 (h : RR U V) {x : Int} (hc : (0 ≤ x ∧ x < U 11 0) ∧ ¬ U 15 x.toNat = 0 ∧ ¬ U 16 x.toNat < 0) : (mConf V x).1 = U 16 x.toNat ∧ (mConf V x).2 0 0 = 0 ∧ RR (vS (uBec U (U 16 x.toNat) 2) 16 x.toNat (-1)) (mConf V x).2 := by
  obtain ⟨g15, v15, v16, g16⟩ := goes_U h hc.1 hc.2.1
  have hb : 0 ≤ U 16 x.toNat ∧ U 16 x.toNat < U 17 0 := by omega
  have cA := h.cA x hc.1.1 hc.1.2 g15 hb.1
  have hT : mConfT V x = 0 := by
    unfold mConfT
    rw [if_neg (fun n => n ((isCl_U h).mpr hc.1)), if_neg (by rw [v15, v16]; omega)]
  unfold mConf
  rw [hT, if_neg (by decide), v16]
  refine ⟨rfl, rfl, ?_⟩
  rw [uBec_lt (by decide) (bA_n h hb (by omega))]
  obtain ⟨b, hbb⟩ : ∃ b : Int, U 16 x.toNat = b := ⟨_, rfl⟩
  rw [hbb] at cA hb ⊢
  have h1 : RR (vS U 16 x.toNat (-1)) (vS (vS V 0 0 0) 16 x.toNat (-1)) := h.thr.p16 hc.1 (by have := h.s17; omega) (fun e => absurd e (by decide)) (fun e => absurd e (by decide))
  have h2 := h1.st (b := b) (x := 2) hb (by show U 18 b.toNat < 4; omega) (by decide) (fun c9 a c d e => by
    have e2 : vS U 16 x.toNat (-1) 16 c9.toNat = b := e
    rw [vS_e] at e2
    split at e2
    · omega
    · exact absurd (h.cD c9 x a c d hc.1.1 hc.1.2 g15 (by omega) (by omega)) (by omega)) (fun e => absurd (show U 18 b.toNat = 3 from e) (by omega)) (fun e => absurd e (by decide))
  rw [vS_comm (k := 16) (k' := 18) (by decide), vS_comm (k := 16) (k' := 18) (by decide)] at h2
  exact h2
theorem p_conf1 (h : RR U V) {x : Int} (hc : ¬ (0 ≤ x ∧ x < U 11 0)) : (mConf V x).2 0 0 = 1 ∧ RR U (mConf V x).2 := by
  have hT : mConfT V x = 1 := if_pos (fun n => hc ((isCl_U h).mp n))
  unfold mConf
  rw [hT, if_pos (by decide)]
  exact ⟨rfl, h.thr⟩
theorem p_conf2 (h : RR U V) {x : Int} (hc : (0 ≤ x ∧ x < U 11 0) ∧ (U 15 x.toNat = 0 ∨ U 16 x.toNat < 0)) : (mConf V x).2 0 0 = 2 ∧ RR U (mConf V x).2 := by
  have hT : mConfT V x = 2 := by
    unfold mConfT
    rw [if_neg (fun n => n ((isCl_U h).mpr hc.1)), if_pos]
    by_cases q : U 15 x.toNat = 0
    · exact Or.inl ((h.f h.e15).trans q)
    · obtain ⟨g15, v15, v16, g16⟩ := goes_U h hc.1 q
      exact Or.inr (by rw [v16]; omega)
  unfold mConf
  rw [hT, if_pos (by decide)]
  exact ⟨rfl, h.thr⟩
end
