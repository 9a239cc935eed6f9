/-! PURE LAW: washing, lines, what may follow, mending -/
theorem vSf {U V : gV} {k i : Nat} {x : Int} (h : U k = V k) : vS U k i x k = vS V k i x k := by
  funext a
  unfold vS
  rw [h]
theorem vS_e {U : gV} {k i a : Nat} {x : Int} : vS U k i x k a = if a = i then x else U k a := by
  by_cases h : a = i
  · subst h; rw [vS_s, if_pos rfl]
  · rw [vS_i h, if_neg h]
theorem fxb_all : ∀ a : Fin 16, ∀ n m : Fin 4, fBit (fXor (a.val : Int) (n.val : Int)) (m.val : Int) = if (m.val : Int) = (n.val : Int) then 1 - fBit (a.val : Int) (n.val : Int) else fBit (a.val : Int) (m.val : Int) := by decide +kernel
theorem fxr_all : ∀ a : Fin 16, ∀ n : Fin 4, 0 ≤ fXor (a.val : Int) (n.val : Int) ∧ fXor (a.val : Int) (n.val : Int) ≤ 15 := by decide +kernel
theorem fxb {a n m : Int} (ha : 0 ≤ a ∧ a ≤ 15) (hn : 0 ≤ n ∧ n < 4) (hm : 0 ≤ m ∧ m < 4) : fBit (fXor a n) m = if m = n then 1 - fBit a n else fBit a m := by
  obtain ⟨a', rfl⟩ : ∃ i : Nat, a = i := ⟨a.toNat, by omega⟩
  obtain ⟨n', rfl⟩ : ∃ i : Nat, n = i := ⟨n.toNat, by omega⟩
  obtain ⟨m', rfl⟩ : ∃ i : Nat, m = i := ⟨m.toNat, by omega⟩
  exact fxb_all ⟨a', by omega⟩ ⟨n', by omega⟩ ⟨m', by omega⟩
theorem fxr {a n : Int} (ha : 0 ≤ a ∧ a ≤ 15) (hn : 0 ≤ n ∧ n < 4) : 0 ≤ fXor a n ∧ fXor a n ≤ 15 := by
  obtain ⟨a', rfl⟩ : ∃ i : Nat, a = i := ⟨a.toNat, by omega⟩
  obtain ⟨n', rfl⟩ : ∃ i : Nat, n = i := ⟨n.toNat, by omega⟩
  exact fxr_all ⟨a', by omega⟩ ⟨n', by omega⟩
theorem rpS_c {U U' V : gV} {e : Nat} (h4 : U' 34 e = U 34 e) (h5 : U' 35 e = U 35 e) (h6 : U' 36 e = U 36 e) (h7 : U' 37 e = U 37 e) : rpS U' V e = rpS U V e := by
  unfold rpS
  rw [h4, h5, h6, h7]
theorem rp_c {U U' : gV} (n : Nat) (h : ∀ e, e < n → U' 34 e = U 34 e ∧ U' 35 e = U 35 e ∧ U' 36 e = U 36 e ∧ U' 37 e = U 37 e) : rp U' n = rp U n := by
  induction n with
  | zero => rfl
  | succ n ih =>
    obtain ⟨a, b, c, d⟩ := h n (by omega)
    rw [rp, rp, ih (fun e he => h e (by omega)), rpS_c a b c d]
theorem rOk_c {U U' V : gV} {e : Nat} (h4 : U' 34 e = U 34 e) (h5 : U' 35 e = U 35 e) (h6 : U' 36 e = U 36 e) (h7 : U' 37 e = U 37 e) (h25 : U 25 0 ≤ U' 25 0) (h : rOk U V e) : rOk U' V e := by
  unfold rOk at h ⊢
  rw [h4, h5, h6, h7]
  obtain ⟨a, b, c, d, e9⟩ := h
  exact ⟨⟨a.1, by omega⟩, b, c, fun q => ⟨(d q).1, (d q).2.1, by have := (d q).2.2.1; omega, (d q).2.2.2⟩, e9⟩
theorem rR_of {U U' : gV} (h : uRp U) (h33 : U' 33 = U 33) (h34 : U' 34 = U 34) (h35 : U' 35 = U 35) (h36 : U' 36 = U 36) (h37 : U' 37 = U 37) (h25 : U' 25 = U 25) : uRp U' := by
  intro e he
  rw [h33] at he
  rw [rp_c e (fun i _ => ⟨by rw [h34], by rw [h35], by rw [h36], by rw [h37]⟩)]
  exact rOk_c (by rw [h34]) (by rw [h35]) (by rw [h36]) (by rw [h37]) (by rw [h25]; exact Int.le_refl _) (h e he)
theorem rA_of {U U' : gV} (h : ∀ k, k = 6 ∨ k = 7 ∨ k = 25 ∨ k = 28 ∨ k = 29 → rp U (U 33 0).toNat k = U k) (h33 : U' 33 = U 33) (h34 : U' 34 = U 34) (h35 : U' 35 = U 35) (h36 : U' 36 = U 36) (h37 : U' 37 = U 37) (h6 : U' 6 = U 6) (h7 : U' 7 = U 7) (h25 : U' 25 = U 25) (h28 : U' 28 = U 28) (h29 : U' 29 = U 29) : ∀ k, k = 6 ∨ k = 7 ∨ k = 25 ∨ k = 28 ∨ k = 29 → rp U' (U' 33 0).toNat k = U' k := by
  intro k hk
  rw [h33, rp_c _ (fun i _ => ⟨by rw [h34], by rw [h35], by rw [h36], by rw [h37]⟩), h k hk]
  rcases hk with rfl | rfl | rfl | rfl | rfl
  · exact h6.symm
  · exact h7.symm
  · exact h25.symm
  · exact h28.symm
  · exact h29.symm
section
variable {U V : gV}
theorem RR.p4 (h : RR U V) {i : Nat} {x : Int} (hx : -1 ≤ x ∧ x ≤ 3) : RR (vS U 4 i x) (vS V 4 i x) := by
  refine RR.mk (e1 := h.e1) (e2 := h.e2) (e4 := vSf h.e4) (e6 := h.e6) (e7 := h.e7) (e10 := h.e10) (e11 := h.e11) (e12 := h.e12) (e13 := h.e13) (e14 := h.e14) (e15 := h.e15) (e17 := h.e17) (e18 := h.e18) (e19 := h.e19) (e20 := h.e20) (e21 := h.e21) (e23 := h.e23) (e24 := h.e24) (e25 := h.e25) (e26 := h.e26) (e27 := h.e27) (e28 := h.e28) (e29 := h.e29) (s1 := h.s1) (s2 := h.s2) (s11 := h.s11) (s17 := h.s17) (s25 := h.s25) (s33 := h.s33) (s41 := h.s41) (s42 := h.s42) (s43 := h.s43) (s45 := h.s45) (s46 := h.s46) (i3 := h.i3) (i4 := ?_) (i5 := h.i5) (i6 := h.i6) (i7 := h.i7) (i8 := h.i8) (i9 := h.i9) (i30 := h.i30) (i10 := h.i10) (i13 := h.i13) (i14 := h.i14) (i15 := h.i15) (i16 := h.i16) (i31 := h.i31) (i32 := h.i32) (i18 := h.i18) (i19 := h.i19) (i20 := h.i20) (i21 := h.i21) (i22 := h.i22) (i23 := h.i23) (i24 := h.i24) (i26 := h.i26) (i27 := h.i27) (i28 := h.i28) (i29 := h.i29) (i34 := h.i34) (r3 := h.r3) (r5 := h.r5) (v5 := h.v5) (r8 := h.r8) (v8 := h.v8) (r9 := h.r9) (c9 := h.c9) (r16 := h.r16) (v16 := h.v16) (r22 := h.r22) (v22 := h.v22) (o9 := h.o9) (oA := h.oA) (oC := h.oC) (oD := h.oD) (bA := h.bA) (bD := h.bD) (bB := h.bB) (bC := h.bC) (tA := h.tA) (tD := h.tD) (t27 := h.t27) (cA := h.cA) (cD := h.cD) (u1 := h.u1) (nT := h.nT) (rR := rR_of h.rR rfl rfl rfl rfl rfl rfl) (rA := rA_of h.rA rfl rfl rfl rfl rfl rfl rfl rfl rfl rfl)
  · intro j a b
    rw [vS_e]
    split
    · exact hx
    · exact h.i4 j a b
theorem RR.p10 (h : RR U V) {i : Nat} {x : Int} (hx : 0 ≤ x ∧ x ≤ 3) : RR (vS U 10 i x) (vS V 10 i x) := by
  refine RR.mk (e1 := h.e1) (e2 := h.e2) (e4 := h.e4) (e6 := h.e6) (e7 := h.e7) (e10 := vSf h.e10) (e11 := h.e11) (e12 := h.e12) (e13 := h.e13) (e14 := h.e14) (e15 := h.e15) (e17 := h.e17) (e18 := h.e18) (e19 := h.e19) (e20 := h.e20) (e21 := h.e21) (e23 := h.e23) (e24 := h.e24) (e25 := h.e25) (e26 := h.e26) (e27 := h.e27) (e28 := h.e28) (e29 := h.e29) (s1 := h.s1) (s2 := h.s2) (s11 := h.s11) (s17 := h.s17) (s25 := h.s25) (s33 := h.s33) (s41 := h.s41) (s42 := h.s42) (s43 := h.s43) (s45 := h.s45) (s46 := h.s46) (i3 := h.i3) (i4 := h.i4) (i5 := h.i5) (i6 := h.i6) (i7 := h.i7) (i8 := h.i8) (i9 := h.i9) (i30 := h.i30) (i10 := ?_) (i13 := h.i13) (i14 := h.i14) (i15 := h.i15) (i16 := h.i16) (i31 := h.i31) (i32 := h.i32) (i18 := h.i18) (i19 := h.i19) (i20 := h.i20) (i21 := h.i21) (i22 := h.i22) (i23 := h.i23) (i24 := h.i24) (i26 := h.i26) (i27 := h.i27) (i28 := h.i28) (i29 := h.i29) (i34 := h.i34) (r3 := h.r3) (r5 := h.r5) (v5 := h.v5) (r8 := h.r8) (v8 := h.v8) (r9 := h.r9) (c9 := h.c9) (r16 := h.r16) (v16 := h.v16) (r22 := h.r22) (v22 := h.v22) (o9 := h.o9) (oA := h.oA) (oC := h.oC) (oD := h.oD) (bA := h.bA) (bD := h.bD) (bB := h.bB) (bC := h.bC) (tA := h.tA) (tD := h.tD) (t27 := h.t27) (cA := h.cA) (cD := h.cD) (u1 := h.u1) (nT := h.nT) (rR := rR_of h.rR rfl rfl rfl rfl rfl rfl) (rA := rA_of h.rA rfl rfl rfl rfl rfl rfl rfl rfl rfl rfl)
  · intro j a b
    rw [vS_e]
    split
    · exact hx
    · exact h.i10 j a b
theorem RR.p12 (h : RR U V) {i : Nat} {x : Int} : RR (vS U 12 i x) (vS V 12 i x) := by
  refine RR.mk (e1 := h.e1) (e2 := h.e2) (e4 := h.e4) (e6 := h.e6) (e7 := h.e7) (e10 := h.e10) (e11 := h.e11) (e12 := vSf h.e12) (e13 := h.e13) (e14 := h.e14) (e15 := h.e15) (e17 := h.e17) (e18 := h.e18) (e19 := h.e19) (e20 := h.e20) (e21 := h.e21) (e23 := h.e23) (e24 := h.e24) (e25 := h.e25) (e26 := h.e26) (e27 := h.e27) (e28 := h.e28) (e29 := h.e29) (s1 := h.s1) (s2 := h.s2) (s11 := h.s11) (s17 := h.s17) (s25 := h.s25) (s33 := h.s33) (s41 := h.s41) (s42 := h.s42) (s43 := h.s43) (s45 := h.s45) (s46 := h.s46) (i3 := h.i3) (i4 := h.i4) (i5 := h.i5) (i6 := h.i6) (i7 := h.i7) (i8 := h.i8) (i9 := h.i9) (i30 := h.i30) (i10 := h.i10) (i13 := h.i13) (i14 := h.i14) (i15 := h.i15) (i16 := h.i16) (i31 := h.i31) (i32 := h.i32) (i18 := h.i18) (i19 := h.i19) (i20 := h.i20) (i21 := h.i21) (i22 := h.i22) (i23 := h.i23) (i24 := h.i24) (i26 := h.i26) (i27 := h.i27) (i28 := h.i28) (i29 := h.i29) (i34 := h.i34) (r3 := h.r3) (r5 := h.r5) (v5 := h.v5) (r8 := h.r8) (v8 := h.v8) (r9 := h.r9) (c9 := h.c9) (r16 := h.r16) (v16 := h.v16) (r22 := h.r22) (v22 := h.v22) (o9 := h.o9) (oA := h.oA) (oC := h.oC) (oD := h.oD) (bA := h.bA) (bD := h.bD) (bB := h.bB) (bC := h.bC) (tA := h.tA) (tD := h.tD) (t27 := h.t27) (cA := h.cA) (cD := h.cD) (u1 := h.u1) (nT := h.nT) (rR := rR_of h.rR rfl rfl rfl rfl rfl rfl) (rA := rA_of h.rA rfl rfl rfl rfl rfl rfl rfl rfl rfl rfl)
theorem RR.p8 (h : RR U V) {f g : Int} (hf : 0 ≤ f ∧ f < 4) (hg : 0 ≤ g ∧ g < 4) : RR (vS U 8 (4 * f + g).toNat (1 - U 8 (4 * f + g).toNat)) (vS V 8 f.toNat (fXor (V 8 f.toNat) g)) := by
  refine RR.mk (e1 := h.e1) (e2 := h.e2) (e4 := h.e4) (e6 := h.e6) (e7 := h.e7) (e10 := h.e10) (e11 := h.e11) (e12 := h.e12) (e13 := h.e13) (e14 := h.e14) (e15 := h.e15) (e17 := h.e17) (e18 := h.e18) (e19 := h.e19) (e20 := h.e20) (e21 := h.e21) (e23 := h.e23) (e24 := h.e24) (e25 := h.e25) (e26 := h.e26) (e27 := h.e27) (e28 := h.e28) (e29 := h.e29) (s1 := h.s1) (s2 := h.s2) (s11 := h.s11) (s17 := h.s17) (s25 := h.s25) (s33 := h.s33) (s41 := h.s41) (s42 := h.s42) (s43 := h.s43) (s45 := h.s45) (s46 := h.s46) (i3 := h.i3) (i4 := h.i4) (i5 := h.i5) (i6 := h.i6) (i7 := h.i7) (i8 := ?_) (i9 := h.i9) (i30 := h.i30) (i10 := h.i10) (i13 := h.i13) (i14 := h.i14) (i15 := h.i15) (i16 := h.i16) (i31 := h.i31) (i32 := h.i32) (i18 := h.i18) (i19 := h.i19) (i20 := h.i20) (i21 := h.i21) (i22 := h.i22) (i23 := h.i23) (i24 := h.i24) (i26 := h.i26) (i27 := h.i27) (i28 := h.i28) (i29 := h.i29) (i34 := h.i34) (r3 := h.r3) (r5 := h.r5) (v5 := h.v5) (r8 := ?_) (v8 := ?_) (r9 := h.r9) (c9 := h.c9) (r16 := h.r16) (v16 := h.v16) (r22 := h.r22) (v22 := h.v22) (o9 := h.o9) (oA := h.oA) (oC := h.oC) (oD := h.oD) (bA := h.bA) (bD := h.bD) (bB := h.bB) (bC := h.bC) (tA := h.tA) (tD := h.tD) (t27 := h.t27) (cA := h.cA) (cD := h.cD) (u1 := h.u1) (nT := h.nT) (rR := rR_of h.rR rfl rfl rfl rfl rfl rfl) (rA := rA_of h.rA rfl rfl rfl rfl rfl rfl rfl rfl rfl rfl)
  · intro j a b
    rw [vS_e]
    split
    · have := h.i8 (4 * f + g) (by omega) (by omega)
      omega
    · exact h.i8 j a b
  · intro f9 g9 a b c d
    rw [vS_e, vS_e]
    have r1 := h.r8 f9 g9 a b c d
    have r2 := h.r8 f g hf.1 hf.2 hg.1 hg.2
    by_cases e : f9 = f
    · subst e
      rw [if_pos rfl, fxb (h.v8 f9 a b) hg ⟨c, d⟩]
      by_cases e2 : g9 = g
      · subst e2; rw [if_pos rfl, if_pos rfl, r1]
      · rw [if_neg e2, if_neg (by omega), r1]
    · rw [if_neg (by omega), if_neg (by omega), r1]
  · intro f9 a b
    rw [vS_e]
    split
    · exact fxr (h.v8 f hf.1 hf.2) hg
    · exact h.v8 f9 a b
theorem RR.mend (h : RR U V) {t : Int} (ht : 0 ≤ t ∧ t < 6) (hc : U 30 t.toNat = 1) : RR (vS U 30 t.toNat 0) (vS V 9 t.toNat (-1)) := by
  refine RR.mk (e1 := h.e1) (e2 := h.e2) (e4 := h.e4) (e6 := h.e6) (e7 := h.e7) (e10 := h.e10) (e11 := h.e11) (e12 := h.e12) (e13 := h.e13) (e14 := h.e14) (e15 := h.e15) (e17 := h.e17) (e18 := h.e18) (e19 := h.e19) (e20 := h.e20) (e21 := h.e21) (e23 := h.e23) (e24 := h.e24) (e25 := h.e25) (e26 := h.e26) (e27 := h.e27) (e28 := h.e28) (e29 := h.e29) (s1 := h.s1) (s2 := h.s2) (s11 := h.s11) (s17 := h.s17) (s25 := h.s25) (s33 := h.s33) (s41 := h.s41) (s42 := h.s42) (s43 := h.s43) (s45 := h.s45) (s46 := h.s46) (i3 := h.i3) (i4 := h.i4) (i5 := h.i5) (i6 := h.i6) (i7 := h.i7) (i8 := h.i8) (i9 := h.i9) (i30 := ?_) (i10 := h.i10) (i13 := h.i13) (i14 := h.i14) (i15 := h.i15) (i16 := h.i16) (i31 := h.i31) (i32 := h.i32) (i18 := h.i18) (i19 := h.i19) (i20 := h.i20) (i21 := h.i21) (i22 := h.i22) (i23 := h.i23) (i24 := h.i24) (i26 := h.i26) (i27 := h.i27) (i28 := h.i28) (i29 := h.i29) (i34 := h.i34) (r3 := h.r3) (r5 := h.r5) (v5 := h.v5) (r8 := h.r8) (v8 := h.v8) (r9 := ?_) (c9 := ?_) (r16 := h.r16) (v16 := h.v16) (r22 := h.r22) (v22 := h.v22) (o9 := h.o9) (oA := h.oA) (oC := h.oC) (oD := h.oD) (bA := h.bA) (bD := h.bD) (bB := h.bB) (bC := h.bC) (tA := h.tA) (tD := h.tD) (t27 := h.t27) (cA := h.cA) (cD := h.cD) (u1 := h.u1) (nT := h.nT) (rR := rR_of h.rR rfl rfl rfl rfl rfl rfl) (rA := rA_of h.rA rfl rfl rfl rfl rfl rfl rfl rfl rfl rfl)
  · intro j a b
    rw [vS_e]
    split
    · exact Or.inl rfl
    · exact h.i30 j a b
  · intro k a b
    rw [vS_e, vS_e]
    by_cases e : k.toNat = t.toNat
    · rw [if_pos e, if_pos e, if_neg (by decide), e]
      exact (h.c9 t ht.1 ht.2 hc).symm
    · rw [if_neg e, if_neg e]; exact h.r9 k a b
  · intro k a b hk
    rw [vS_e] at hk
    split at hk
    · exact absurd hk (by decide)
    · exact h.c9 k a b hk
theorem p_wash0 (h : RR U V) {y : Int} (hc : isYd y ∧ ¬ U 6 (5 * y + 0).toNat = 0) : (mWash V y).1 = U 4 (U 7 (6 * (5 * y + 0) + (U 6 (5 * y + 0).toNat - 1)).toNat).toNat ∧ (mWash V y).2 0 0 = 0 ∧ RR (vS U 4 (U 7 (6 * (5 * y + 0) + (U 6 (5 * y + 0).toNat - 1)).toNat).toNat (-1)) (mWash V y).2 := by
  have e0 : 5 * y + 0 = 5 * y := Int.add_zero _
  rw [e0] at hc ⊢
  have hT : mWashT V y = 0 := by
    unfold mWashT
    rw [if_neg (fun n => n hc.1), h.f h.e6, if_neg hc.2]
  have ew : V 7 (6 * (5 * y) + V 6 (5 * y).toNat - 1).toNat = U 7 (6 * (5 * y) + (U 6 (5 * y).toNat - 1)).toNat := by
    rw [h.f h.e7, h.f h.e6, show 6 * (5 * y) + U 6 (5 * y).toNat - 1 = 6 * (5 * y) + (U 6 (5 * y).toNat - 1) by omega]
  unfold mWash
  rw [hT, if_neg (by decide), ew]
  exact ⟨h.f h.e4, rfl, h.thr.p4 (by decide)⟩
theorem p_wash1 (h : RR U V) {y : Int} (hc : ¬ isYd y) : (mWash V y).2 0 0 = 1 ∧ RR U (mWash V y).2 := by
  have hT : mWashT V y = 1 := if_pos hc
  unfold mWash
  rw [hT, if_pos (by decide)]
  exact ⟨rfl, h.thr⟩
theorem p_wash2 (h : RR U V) {y : Int} (hc : isYd y ∧ U 6 (5 * y + 0).toNat = 0) : (mWash V y).2 0 0 = 2 ∧ RR U (mWash V y).2 := by
  have e0 : 5 * y + 0 = 5 * y := Int.add_zero _
  rw [e0] at hc
  have hT : mWashT V y = 2 := by
    unfold mWashT
    rw [if_neg (fun n => n hc.1), h.f h.e6, if_pos hc.2]
  unfold mWash
  rw [hT, if_pos (by decide)]
  exact ⟨rfl, h.thr⟩
theorem IU_eq (h : RR U V) {y : Int} : mCT V y (V 11 0).toNat = uIU U y (U 11 0).toNat := by
  have g11 := h.s11
  rw [show V 11 0 = U 11 0 from h.f h.e11]
  have go : ∀ n : Nat, n ≤ (U 11 0).toNat → mCT V y n = uIU U y n := by
    intro n
    induction n with
    | zero => intro _; rfl
    | succ n ih =>
      intro hn
      have r15 : U 15 n = 0 ∨ U 15 n = 1 := h.i15 (n : Int) (by omega) (by omega)
      have e15 : V 15 n = U 15 n := h.f h.e15
      have e14 : V 14 n = U 14 n := h.f h.e14
      rw [mCT, uIU, ih (by omega)]
      show uIU U y n + (if V 15 n = 1 ∧ V 14 n = y then 1 else 0) = _
      rw [e15, e14]
      by_cases q : U 15 n = 1
      · by_cases q2 : U 14 n = y
        · rw [if_pos ⟨q, q2⟩, if_pos ⟨by omega, q2⟩]
        · rw [if_neg (fun z => q2 z.2), if_neg (fun z => q2 z.2)]
      · rw [if_neg (fun z => q z.1), if_neg (fun z => by omega)]
  exact go _ (Nat.le_refl _)
theorem p_lin0 (h : RR U V) {y q : Int} (hc : isYd y ∧ (0 ≤ q ∧ q ≤ 3) ∧ uIU U y (U 11 0).toNat ≤ q) : (mLin V y q).1 = U 10 y.toNat ∧ (mLin V y q).2 0 0 = 0 ∧ RR (vS U 10 y.toNat q) (mLin V y q).2 := by
  have hT : mLinT V y q = 0 := by
    unfold mLinT
    rw [if_neg (by omega), IU_eq h, if_neg (by omega)]
  unfold mLin
  rw [hT, if_neg (by decide)]
  exact ⟨h.f h.e10, rfl, h.thr.p10 hc.2.1⟩
theorem p_lin1 (h : RR U V) {y q : Int} (hc : ¬ (isYd y ∧ 0 ≤ q ∧ q ≤ 3)) : (mLin V y q).2 0 0 = 1 ∧ RR U (mLin V y q).2 := by
  have hT : mLinT V y q = 1 := if_pos hc
  unfold mLin
  rw [hT, if_pos (by decide)]
  exact ⟨rfl, h.thr⟩
theorem p_lin2 (h : RR U V) {y q : Int} (hc : (isYd y ∧ 0 ≤ q ∧ q ≤ 3) ∧ q < uIU U y (U 11 0).toNat) : (mLin V y q).2 0 0 = 2 ∧ RR U (mLin V y q).2 := by
  have hT : mLinT V y q = 2 := by
    unfold mLinT
    rw [if_neg (by omega), IU_eq h, if_pos hc.2]
  unfold mLin
  rw [hT, if_pos (by decide)]
  exact ⟨rfl, h.thr⟩
theorem p_fol0 (h : RR U V) {f g : Int} (hc : isGr f ∧ isGr g ∧ ¬ f = g) : bI (mFolB V f g) = 1 - U 8 (4 * f + g).toNat ∧ mFolV V f g 0 0 = 0 ∧ RR (vS U 8 (4 * f + g).toNat (1 - U 8 (4 * f + g).toNat)) (mFolV V f g) := by
  have hT : mFolT V f g = 0 := if_pos hc
  have r := h.r8 f g (by omega) (by omega) (by omega) (by omega)
  have r2 := fxb (h.v8 f (by omega) (by omega)) (n := g) (m := g) (by omega) (by omega)
  rw [if_pos rfl, r] at r2
  have i8 := h.i8 (4 * f + g) (by omega) (by omega)
  refine ⟨?_, ?_, ?_⟩
  · by_cases q : fBit (fXor (V 8 f.toNat) g) g = 1
    · rw [bI_1 ⟨hc, q⟩]; omega
    · rw [bI_0 (fun z => q z.2)]; omega
  · unfold mFolV
    rw [hT, if_neg (by decide)]
    rfl
  · unfold mFolV
    rw [hT, if_neg (by decide)]
    exact h.thr.p8 (by omega) (by omega)
theorem p_fol1 (h : RR U V) {f g : Int} (hc : ¬ (isGr f ∧ isGr g ∧ ¬ f = g)) : mFolV V f g 0 0 = 1 ∧ RR U (mFolV V f g) := by
  have hT : mFolT V f g = 1 := if_neg hc
  unfold mFolV
  rw [hT, if_pos (by decide)]
  exact ⟨rfl, h.thr⟩
/-- cut to both alike -/
theorem cut_U (h : RR U V) {t : Int} (ht : 0 ≤ t ∧ t < 6) : (V 9 t.toNat = -2 ↔ U 30 t.toNat = 1) ∧ (¬ U 30 t.toNat = 1 → V 9 t.toNat = U 9 t.toNat) := by
  have r := h.r9 t ht.1 ht.2
  have i := h.i9 t ht.1 ht.2
  split at r <;> constructor <;> (try omega)
theorem p_mend0 (h : RR U V) {a b k : Int} (hc : isTk a b k ∧ U 30 (2 * (a + b - 1) + k).toNat = 1) : (mMend V a b k).2 0 0 = 0 ∧ RR (vS U 30 (2 * (a + b - 1) + k).toNat 0) (mMend V a b k).2 := by
  have g := cut_U h (t := 2 * (a + b - 1) + k) (by omega)
  have hT : mMendT V a b k = 0 := by
    unfold mMendT
    rw [if_neg (fun n => n hc.1), if_pos (g.1.mpr hc.2)]
  unfold mMend
  rw [hT, if_neg (by decide)]
  exact ⟨rfl, h.thr.mend (by omega) hc.2⟩
theorem p_mend1 (h : RR U V) {a b k : Int} (hc : ¬ isTk a b k) : (mMend V a b k).2 0 0 = 1 ∧ RR U (mMend V a b k).2 := by
  have hT : mMendT V a b k = 1 := if_pos hc
  unfold mMend
  rw [hT, if_pos (by decide)]
  exact ⟨rfl, h.thr⟩
theorem p_mend2 (h : RR U V) {a b k : Int} (hc : isTk a b k ∧ ¬ U 30 (2 * (a + b - 1) + k).toNat = 1) : (mMend V a b k).2 0 0 = 2 ∧ RR U (mMend V a b k).2 := by
  have g := cut_U h (t := 2 * (a + b - 1) + k) (by omega)
  have hT : mMendT V a b k = 2 := by
    unfold mMendT
    rw [if_neg (fun n => n hc.1), if_neg (fun n => hc.2 (g.1.mp n))]
  unfold mMend
  rw [hT, if_pos (by decide)]
  exact ⟨rfl, h.thr⟩
end
