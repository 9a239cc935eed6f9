/-! PURE LAW: asking -/
/-- a new booking of g by call x (customer p, yard q) -/
def zB (U : gV) (b0 : Nat) (x : Nat) (p q g e : Int) : gV := vS (vS (vS (vS (vS (vS (vS (vS (vS U 18 b0 0) 19 b0 g) 20 b0 p) 21 b0 q) 22 b0 0) 23 b0 0) 42 0 (e + 1)) 16 x e) 17 0 (e + 1)
def wB (V : gV) (b0 : Nat) (x : Nat) (p q g e : Int) : gV := vS (vS (vS (vS (vS (vS (vS V 18 b0 0) 19 b0 g) 20 b0 p) 21 b0 q) 23 b0 0) 16 x e) 17 0 (e + 1)
section
variable {U V : gV}
theorem RR.newB (h : RR U V) {x g : Int} (hx : 0 ≤ x ∧ x < U 11 0) (hg : 0 ≤ g ∧ g ≤ 3) (h40 : U 17 0 < 40) : RR (zB U (U 17 0).toNat x.toNat (U 13 x.toNat) (U 14 x.toNat) g (U 17 0)) (wB V (U 17 0).toNat x.toNat (U 13 x.toNat) (U 14 x.toNat) g (U 17 0)) := by
  have s17 := h.s17
  refine RR.mk (e1 := h.e1) (e2 := h.e2) (e4 := h.e4) (e6 := h.e6) (e7 := h.e7) (e10 := h.e10) (e11 := h.e11) (e12 := h.e12) (e13 := h.e13) (e14 := h.e14) (e15 := h.e15) (e17 := funext fun i => by show vS U 17 0 (U 17 0 + 1) 17 i = vS V 17 0 (U 17 0 + 1) 17 i; rw [vSf h.e17]) (e18 := funext fun i => by show vS U 18 (U 17 0).toNat 0 18 i = vS V 18 (U 17 0).toNat 0 18 i; rw [vSf h.e18]) (e19 := funext fun i => by show vS U 19 (U 17 0).toNat g 19 i = vS V 19 (U 17 0).toNat g 19 i; rw [vSf h.e19]) (e20 := funext fun i => by show vS U 20 (U 17 0).toNat (U 13 x.toNat) 20 i = vS V 20 (U 17 0).toNat (U 13 x.toNat) 20 i; rw [vSf h.e20]) (e21 := funext fun i => by show vS U 21 (U 17 0).toNat (U 14 x.toNat) 21 i = vS V 21 (U 17 0).toNat (U 14 x.toNat) 21 i; rw [vSf h.e21]) (e23 := funext fun i => by show vS U 23 (U 17 0).toNat 0 23 i = vS V 23 (U 17 0).toNat 0 23 i; rw [vSf h.e23]) (e24 := h.e24) (e25 := h.e25) (e26 := h.e26) (e27 := h.e27) (e28 := h.e28) (e29 := h.e29) (s1 := h.s1) (s2 := h.s2) (s11 := h.s11) (s17 := ?_) (s25 := h.s25) (s33 := h.s33) (s41 := h.s41) (s42 := ?_) (s43 := h.s43) (s45 := h.s45) (s46 := h.s46) (i3 := h.i3) (i4 := h.i4) (i5 := ?_) (i6 := h.i6) (i7 := h.i7) (i8 := h.i8) (i9 := h.i9) (i30 := h.i30) (i10 := h.i10) (i13 := h.i13) (i14 := h.i14) (i15 := h.i15) (i16 := ?_) (i31 := h.i31) (i32 := h.i32) (i18 := ?_) (i19 := ?_) (i20 := ?_) (i21 := ?_) (i22 := ?_) (i23 := ?_) (i24 := ?_) (i26 := h.i26) (i27 := h.i27) (i28 := h.i28) (i29 := h.i29) (i34 := h.i34) (r3 := h.r3) (r5 := ?_) (v5 := ?_) (r8 := h.r8) (v8 := h.v8) (r9 := h.r9) (c9 := h.c9) (r16 := ?_) (v16 := ?_) (r22 := ?_) (v22 := h.v22) (o9 := h.o9) (oA := h.oA) (oC := h.oC) (oD := h.oD) (bA := ?_) (bD := ?_) (bB := ?_) (bC := ?_) (tA := ?_) (tD := h.tD) (t27 := h.t27) (cA := ?_) (cD := ?_) (u1 := h.u1) (nT := ?_) (rR := rR_of h.rR rfl rfl rfl rfl rfl rfl) (rA := rA_of h.rA rfl rfl rfl rfl rfl rfl rfl rfl rfl rfl)
  · show 0 ≤ U 17 0 + 1 ∧ U 17 0 + 1 ≤ 40
    omega
  · show U 17 0 + 1 = U 17 0 + 1
    rfl
  · intro j a b
    show -1 ≤ U 5 j.toNat ∧ U 5 j.toNat < U 17 0 + 1
    have := h.i5 j a b
    omega
  · intro j a b
    show -1 ≤ vS U 16 x.toNat (U 17 0) 16 j.toNat ∧ vS U 16 x.toNat (U 17 0) 16 j.toNat < U 17 0 + 1
    have := h.i16 j a b
    rw [vS_e]
    split <;> omega
  · intro j a b
    have b2 : j < U 17 0 + 1 := b
    show 0 ≤ vS U 18 (U 17 0).toNat 0 18 j.toNat ∧ vS U 18 (U 17 0).toNat 0 18 j.toNat ≤ 5
    rw [vS_e]
    split
    · decide
    · exact h.i18 j a (by omega)
  · intro j a b
    have b2 : j < U 17 0 + 1 := b
    show 0 ≤ vS U 19 (U 17 0).toNat g 19 j.toNat ∧ vS U 19 (U 17 0).toNat g 19 j.toNat ≤ 3
    rw [vS_e]
    split
    · exact hg
    · exact h.i19 j a (by omega)
  · intro j a b
    have b2 : j < U 17 0 + 1 := b
    show 0 ≤ vS U 20 (U 17 0).toNat (U 13 x.toNat) 20 j.toNat ∧ vS U 20 (U 17 0).toNat (U 13 x.toNat) 20 j.toNat ≤ 5
    rw [vS_e]
    split
    · exact h.i13 x hx.1 hx.2
    · exact h.i20 j a (by omega)
  · intro j a b
    have b2 : j < U 17 0 + 1 := b
    show 0 ≤ vS U 21 (U 17 0).toNat (U 14 x.toNat) 21 j.toNat ∧ vS U 21 (U 17 0).toNat (U 14 x.toNat) 21 j.toNat ≤ 2
    rw [vS_e]
    split
    · exact h.i14 x hx.1 hx.2
    · exact h.i21 j a (by omega)
  · intro j a b
    have b2 : j < U 17 0 + 1 := b
    show 0 ≤ vS U 22 (U 17 0).toNat 0 22 j.toNat ∧ vS U 22 (U 17 0).toNat 0 22 j.toNat ≤ 10010
    rw [vS_e]
    split
    · decide
    · exact h.i22 j a (by omega)
  · intro j a b
    have b2 : j < U 17 0 + 1 := b
    show 0 ≤ vS U 23 (U 17 0).toNat 0 23 j.toNat ∧ vS U 23 (U 17 0).toNat 0 23 j.toNat ≤ 30
    rw [vS_e]
    split
    · decide
    · exact h.i23 j a (by omega)
  · intro b k a b9 e e1
    have b2 : b < U 17 0 + 1 := b9
    have e2 : k < vS U 23 (U 17 0).toNat 0 23 b.toNat := e1
    show 0 ≤ U 24 (30 * b + k).toNat ∧ U 24 (30 * b + k).toNat < U 2 0
    rw [vS_e] at e2
    split at e2
    · omega
    · exact h.i24 b k a (by omega) e e2
  · intro w a b
    have g5 := h.r5 w a b
    have gv := h.v5 w a b
    show U 5 w.toNat = if V 5 w.toNat < 0 ∨ 4 ≤ vS U 18 (U 17 0).toNat 0 18 (V 5 w.toNat).toNat then -1 else V 5 w.toNat
    rw [vS_e]
    by_cases z : V 5 w.toNat < 0
    · rw [if_pos (Or.inl z)] at g5 ⊢; exact g5
    · rw [if_neg (show ¬ (V 5 w.toNat).toNat = (U 17 0).toNat by omega)]; exact g5
  · intro j a b
    show -1 ≤ V 5 j.toNat ∧ V 5 j.toNat < U 17 0 + 1
    have := h.v5 j a b
    omega
  · intro c a b d
    show vS V 16 x.toNat (U 17 0) 16 c.toNat = vS U 16 x.toNat (U 17 0) 16 c.toNat
    rw [vS_e, vS_e]
    split
    · rfl
    · exact h.r16 c a b d
  · intro j a b
    show -1 ≤ vS V 16 x.toNat (U 17 0) 16 j.toNat ∧ vS V 16 x.toNat (U 17 0) 16 j.toNat < U 17 0 + 1
    have := h.v16 j a b
    rw [vS_e]
    split <;> omega
  · intro b a b9 q
    have b2 : b < U 17 0 + 1 := b9
    have q2 : vS U 18 (U 17 0).toNat 0 18 b.toNat = 1 := q
    show V 22 b.toNat = vS U 22 (U 17 0).toNat 0 22 b.toNat
    rw [vS_e] at q2
    split at q2
    · exact absurd q2 (by decide)
    · rename_i m
      rw [vS_i m]
      exact h.r22 b a (by omega) q2
  · intro b j a b9 q e e1
    have b2 : b < U 17 0 + 1 := b9
    have q2 : vS U 18 (U 17 0).toNat 0 18 b.toNat < 4 := q
    have e2 : j < vS U 23 (U 17 0).toNat 0 23 b.toNat := e1
    show U 5 (U 24 (30 * b + j).toNat).toNat = b
    rw [vS_e] at q2 e2
    split at e2
    · omega
    · rename_i m
      rw [if_neg m] at q2
      exact h.bA b j a (by omega) q2 e e2
  · intro b i j a b9 q e e1 e9
    have b2 : b < U 17 0 + 1 := b9
    have q2 : vS U 18 (U 17 0).toNat 0 18 b.toNat < 4 := q
    have e2 : j < vS U 23 (U 17 0).toNat 0 23 b.toNat := e9
    show ¬ U 24 (30 * b + i).toNat = U 24 (30 * b + j).toNat
    rw [vS_e] at q2 e2
    split at e2
    · omega
    · rename_i m
      rw [if_neg m] at q2
      exact h.bD b i j a (by omega) q2 e e1 e2
  · intro w a b q
    have i := h.i5 w a b
    have q2 : 0 ≤ U 5 w.toNat := q
    show vS U 18 (U 17 0).toNat 0 18 (U 5 w.toNat).toNat < 4
    rw [vS_i (by omega)]
    exact h.bB w a b q2
  · intro w a b q
    have i := h.i5 w a b
    have q2 : 0 ≤ U 5 w.toNat := q
    show ∃ j : Int, 0 ≤ j ∧ j < vS U 23 (U 17 0).toNat 0 23 (U 5 w.toNat).toNat ∧ U 24 (30 * U 5 w.toNat + j).toNat = w
    rw [vS_i (by omega)]
    exact h.bC w a b q2
  · intro r k a c d e f
    obtain ⟨g1, g2⟩ := h.tA r k a c d e f
    have i29 := h.i29 r k a c e f
    have i := h.i5 _ i29.1 i29.2
    refine ⟨g1, ?_⟩
    show vS U 18 (U 17 0).toNat 0 18 (U 5 (U 29 (6 * r + k).toNat).toNat).toNat = 3
    rw [vS_i (by omega)]
    exact g2
  · intro c a b d
    show 0 ≤ vS U 16 x.toNat (U 17 0) 16 c.toNat → vS U 18 (U 17 0).toNat 0 18 (vS U 16 x.toNat (U 17 0) 16 c.toNat).toNat = 0
    have i := h.i16 c a b
    rw [vS_e (k := 16)]
    split
    · exact fun _ => vS_s
    · intro e
      rw [vS_i (by omega)]
      exact h.cA c a b d e
  · intro c c' a b d a' b' d'
    show 0 ≤ vS U 16 x.toNat (U 17 0) 16 c.toNat → vS U 16 x.toNat (U 17 0) 16 c.toNat = vS U 16 x.toNat (U 17 0) 16 c'.toNat → c = c'
    have i := h.i16 c a b
    have i' := h.i16 c' a' b'
    rw [vS_e, vS_e]
    by_cases m : c.toNat = x.toNat
    · by_cases m' : c'.toNat = x.toNat
      · exact fun _ _ => by omega
      · rw [if_pos m, if_neg m']; exact fun _ z => by omega
    · by_cases m' : c'.toNat = x.toNat
      · rw [if_neg m, if_pos m']; exact fun _ z => by omega
      · rw [if_neg m, if_neg m']; exact h.cD c c' a b d a' b' d'
  · show U 25 0 ≤ (cnt (vS U 18 (U 17 0).toNat 0 18) (U 17 0 + 1).toNat : Int)
    have g := h.nT
    rw [show (U 17 0 + 1).toNat = (U 17 0).toNat + 1 by omega, cnt, vS_s, if_neg (by decide), cnt_c (g := U 18) (U 17 0).toNat (fun i hi => vS_i (by omega))]
    omega
theorem RR.addW (h : RR U V) {b w : Int} (hb : 0 ≤ b ∧ b < U 17 0) (hs : U 18 b.toNat < 4) (hw : 0 ≤ w ∧ w < U 2 0) (hp : U 5 w.toNat < 0) : RR (vS (uAdd U b w) 5 w.toNat b) (vS (vS (vS V 24 (30 * b + U 23 b.toNat).toNat w) 23 b.toNat (U 23 b.toNat + 1)) 5 w.toNat b) := by
  have hm := h.i23 b hb.1 hb.2
  have h30 := room_U h hb hs hw hp
  refine RR.mk (e1 := h.e1) (e2 := h.e2) (e4 := h.e4) (e6 := h.e6) (e7 := h.e7) (e10 := h.e10) (e11 := h.e11) (e12 := h.e12) (e13 := h.e13) (e14 := h.e14) (e15 := h.e15) (e17 := h.e17) (e18 := h.e18) (e19 := h.e19) (e20 := h.e20) (e21 := h.e21) (e23 := funext fun i => by show vS U 23 b.toNat (U 23 b.toNat + 1) 23 i = vS V 23 b.toNat (U 23 b.toNat + 1) 23 i; rw [vSf h.e23]) (e24 := funext fun i => by show vS U 24 (30 * b + U 23 b.toNat).toNat w 24 i = vS V 24 (30 * b + U 23 b.toNat).toNat w 24 i; rw [vSf h.e24]) (e25 := h.e25) (e26 := h.e26) (e27 := h.e27) (e28 := h.e28) (e29 := h.e29) (s1 := h.s1) (s2 := h.s2) (s11 := h.s11) (s17 := h.s17) (s25 := h.s25) (s33 := h.s33) (s41 := h.s41) (s42 := h.s42) (s43 := h.s43) (s45 := h.s45) (s46 := h.s46) (i3 := h.i3) (i4 := h.i4) (i5 := ?_) (i6 := h.i6) (i7 := h.i7) (i8 := h.i8) (i9 := h.i9) (i30 := h.i30) (i10 := h.i10) (i13 := h.i13) (i14 := h.i14) (i15 := h.i15) (i16 := h.i16) (i31 := h.i31) (i32 := h.i32) (i18 := h.i18) (i19 := h.i19) (i20 := h.i20) (i21 := h.i21) (i22 := h.i22) (i23 := ?_) (i24 := ?_) (i26 := h.i26) (i27 := h.i27) (i28 := h.i28) (i29 := h.i29) (i34 := h.i34) (r3 := h.r3) (r5 := ?_) (v5 := ?_) (r8 := h.r8) (v8 := h.v8) (r9 := h.r9) (c9 := h.c9) (r16 := h.r16) (v16 := h.v16) (r22 := h.r22) (v22 := h.v22) (o9 := h.o9) (oA := h.oA) (oC := h.oC) (oD := h.oD) (bA := ?_) (bD := ?_) (bB := ?_) (bC := ?_) (tA := ?_) (tD := ?_) (t27 := h.t27) (cA := h.cA) (cD := h.cD) (u1 := h.u1) (nT := h.nT) (rR := rR_of h.rR rfl rfl rfl rfl rfl rfl) (rA := rA_of h.rA rfl rfl rfl rfl rfl rfl rfl rfl rfl rfl)
  · intro j a c
    show -1 ≤ vS U 5 w.toNat b 5 j.toNat ∧ vS U 5 w.toNat b 5 j.toNat < U 17 0
    have := h.i5 j a c
    rw [vS_e]
    split <;> omega
  · intro j a c
    show 0 ≤ vS U 23 b.toNat (U 23 b.toNat + 1) 23 j.toNat ∧ vS U 23 b.toNat (U 23 b.toNat + 1) 23 j.toNat ≤ 30
    have := h.i23 j a c
    rw [vS_e]
    split
    · rename_i m
      rw [m] at this
      omega
    · exact this
  · intro b9 k a c e e1
    have e2 : k < vS U 23 b.toNat (U 23 b.toNat + 1) 23 b9.toNat := e1
    show 0 ≤ vS U 24 (30 * b + U 23 b.toNat).toNat w 24 (30 * b9 + k).toNat ∧ vS U 24 (30 * b + U 23 b.toNat).toNat w 24 (30 * b9 + k).toNat < U 2 0
    have i9 := h.i23 b9 a c
    rw [vS_e] at e2
    by_cases m : b9.toNat = b.toNat
    · rw [if_pos m] at e2
      have : b9 = b := by omega
      subst this
      rw [vS_e]
      split
      · exact hw
      · exact h.i24 b9 k a c e (by omega)
    · rw [if_neg m] at e2
      rw [vS_i (by omega)]
      exact h.i24 b9 k a c e e2
  · intro j a c
    show vS U 5 w.toNat b 5 j.toNat = if vS V 5 w.toNat b 5 j.toNat < 0 ∨ 4 ≤ U 18 (vS V 5 w.toNat b 5 j.toNat).toNat then -1 else vS V 5 w.toNat b 5 j.toNat
    rw [vS_e, vS_e]
    split
    · rw [if_neg (by omega)]
    · exact h.r5 j a c
  · intro j a c
    show -1 ≤ vS V 5 w.toNat b 5 j.toNat ∧ vS V 5 w.toNat b 5 j.toNat < U 17 0
    have := h.v5 j a c
    rw [vS_e]
    split <;> omega
  · intro b9 j a c q e e1
    have q2 : U 18 b9.toNat < 4 := q
    have e2 : j < vS U 23 b.toNat (U 23 b.toNat + 1) 23 b9.toNat := e1
    have i9 := h.i23 b9 a c
    show vS U 5 w.toNat b 5 (vS U 24 (30 * b + U 23 b.toNat).toNat w 24 (30 * b9 + j).toNat).toNat = b9
    rw [vS_e (k := 23)] at e2
    by_cases m : b9.toNat = b.toNat
    · rw [if_pos m] at e2
      have : b9 = b := by omega
      subst this
      rw [vS_e (k := 24)]
      by_cases z : (30 * b9 + j).toNat = (30 * b9 + U 23 b9.toNat).toNat
      · rw [if_pos z, vS_s]
      · rw [if_neg z]
        have g1 := h.bA b9 j a c q2 e (by omega)
        rw [vS_e]
        split
        · rfl
        · exact g1
    · rw [if_neg m] at e2
      rw [vS_i (k := 24) (by omega)]
      have g1 := h.bA b9 j a c q2 e e2
      have g2 := h.i24 b9 j a c e e2
      rw [vS_e, if_neg]
      · exact g1
      · intro z
        have : U 24 (30 * b9 + j).toNat = w := by omega
        rw [this] at g1
        omega
  · intro b9 i j a c q e e1 e9
    have q2 : U 18 b9.toNat < 4 := q
    have e2 : j < vS U 23 b.toNat (U 23 b.toNat + 1) 23 b9.toNat := e9
    have i9 := h.i23 b9 a c
    show ¬ vS U 24 (30 * b + U 23 b.toNat).toNat w 24 (30 * b9 + i).toNat = vS U 24 (30 * b + U 23 b.toNat).toNat w 24 (30 * b9 + j).toNat
    rw [vS_e (k := 23)] at e2
    by_cases m : b9.toNat = b.toNat
    · rw [if_pos m] at e2
      have : b9 = b := by omega
      subst this
      rw [vS_i (b := (30 * b9 + i).toNat) (by omega), vS_e]
      split
      · have g1 := h.bA b9 i a c q2 e (by omega)
        intro z
        rw [z] at g1
        omega
      · exact h.bD b9 i j a c q2 e e1 (by omega)
    · rw [if_neg m] at e2
      rw [vS_i (by omega), vS_i (by omega)]
      exact h.bD b9 i j a c q2 e e1 e2
  · intro j a c q
    have q2 : 0 ≤ vS U 5 w.toNat b 5 j.toNat := q
    show U 18 (vS U 5 w.toNat b 5 j.toNat).toNat < 4
    rw [vS_e] at q2 ⊢
    split
    · exact hs
    · rename_i m
      rw [if_neg m] at q2
      exact h.bB j a c q2
  · intro j a c q
    have q2 : 0 ≤ vS U 5 w.toNat b 5 j.toNat := q
    show ∃ i : Int, 0 ≤ i ∧ i < vS U 23 b.toNat (U 23 b.toNat + 1) 23 (vS U 5 w.toNat b 5 j.toNat).toNat ∧ vS U 24 (30 * b + U 23 b.toNat).toNat w 24 (30 * vS U 5 w.toNat b 5 j.toNat + i).toNat = j
    rw [vS_e (k := 5)] at q2 ⊢
    by_cases m : j.toNat = w.toNat
    · rw [if_pos m]
      refine ⟨U 23 b.toNat, hm.1, by rw [vS_s]; omega, ?_⟩
      rw [vS_s]; omega
    · rw [if_neg m] at q2 ⊢
      obtain ⟨i, i0, i1, i2⟩ := h.bC j a c q2
      have g5 := h.i5 j a c
      have g23 := h.i23 (U 5 j.toNat) q2 g5.2
      refine ⟨i, i0, ?_, ?_⟩
      · rw [vS_e]
        split
        · rename_i z
          rw [z] at i1
          omega
        · exact i1
      · rw [vS_i]
        · exact i2
        · intro z
          have : U 5 j.toNat = b := by omega
          rw [this] at i1
          omega
  · intro r k a c d e f
    obtain ⟨g1, g2⟩ := h.tA r k a c d e f
    have i29 := h.i29 r k a c e f
    have ne : ¬ (U 29 (6 * r + k).toNat).toNat = w.toNat := fun z => by rw [z] at g1; omega
    show 0 ≤ vS U 5 w.toNat b 5 (U 29 (6 * r + k).toNat).toNat ∧ U 18 (vS U 5 w.toNat b 5 (U 29 (6 * r + k).toNat).toNat).toNat = 3
    rw [vS_i ne]
    exact ⟨g1, g2⟩
  · intro r r' k k' a c d a' c' d' e e1 e' e1' hq
    have g1 := (h.tA r k a c d e e1).1
    have g1' := (h.tA r' k' a' c' d' e' e1').1
    have ne : ¬ (U 29 (6 * r + k).toNat).toNat = w.toNat := fun z => by rw [z] at g1; omega
    have ne' : ¬ (U 29 (6 * r' + k').toNat).toNat = w.toNat := fun z => by rw [z] at g1'; omega
    have hq2 : vS U 5 w.toNat b 5 (U 29 (6 * r + k).toNat).toNat = vS U 5 w.toNat b 5 (U 29 (6 * r' + k').toNat).toNat := hq
    rw [vS_i ne, vS_i ne'] at hq2
    exact h.tD r r' k k' a c d a' c' d' e e1 e' e1' hq2
theorem p_ask0 (h : RR U V) {x g : Int} (hc : (0 ≤ x ∧ x < U 11 0) ∧ isGr g ∧ ¬ U 15 x.toNat = 0 ∧ (U 16 x.toNat < 0 ∧ U 17 0 < 40 ∨ ¬ U 16 x.toNat < 0 ∧ U 19 (U 16 x.toNat).toNat = g)) : (mAsk V x g).1 = (uAsk U x g).1 ∧ (mAsk V x g).2 0 0 = 0 ∧ RR (uAsk U x g).2 (mAsk V x g).2 := by
  obtain ⟨hx, hg, c1, c2⟩ := hc
  obtain ⟨g15, v15, v16, g16⟩ := goes_U h hx c1
  have g14 := h.i14 x hx.1 hx.2
  have e17 : V 17 0 = U 17 0 := h.f h.e17
  have s17 := h.s17
  have hT : mAskT V x g = 0 := by
    unfold mAskT
    rw [if_neg (fun n => n ((isCl_U h).mpr hx)), if_neg (fun n => n hg), v15, if_neg (by decide), v16, e17, h.f h.e19, if_pos (by omega)]
  unfold mAsk
  rw [hT, if_neg (by decide)]
  unfold mAsk2 uAsk
  rw [show V 14 x.toNat = U 14 x.toNat from h.f h.e14, Find_eq h g14 (by omega), v16]
  have hp := uFo_p h (y := U 14 x.toNat) (g := g) g14 5 (Nat.le_refl _)
  rw [show (uFo U (U 14 x.toNat) g 5).1 = uFind U (U 14 x.toNat) g from rfl] at hp
  obtain ⟨w, hw⟩ : ∃ w : Int, uFind U (U 14 x.toNat) g = w := ⟨_, rfl⟩
  rw [hw] at hp ⊢
  by_cases q : w < 0
  · rw [if_pos q, if_pos (by omega)]
    exact ⟨by show w = -1; omega, rfl, h.thr⟩
  · rw [if_neg q, if_neg (by omega)]
    have hw2 : (0 ≤ w ∧ w < U 2 0) ∧ U 5 w.toNat < 0 := by omega
    by_cases q2 : U 16 x.toNat < 0
    · rw [if_pos q2, if_pos (by omega)]
      refine ⟨rfl, rfl, ?_⟩
      have h1 := h.thr (x := 0) |>.newB hx hg (by omega)
      have eU : uAskN U x g = zB U (U 17 0).toNat x.toNat (U 13 x.toNat) (U 14 x.toNat) g (U 17 0) := by
        unfold uAskN uB
        rw [h.s42]
        rfl
      have eV : mAskV (vS V 0 0 0) x g = wB (vS V 0 0 0) (U 17 0).toNat x.toNat (U 13 x.toNat) (U 14 x.toNat) g (U 17 0) := by
        unfold mAskV
        rw [show (vS V 0 0 0) 17 0 = U 17 0 from e17, show (vS V 0 0 0) 13 x.toNat = U 13 x.toNat from h.f h.e13, show (vS V 0 0 0) 14 x.toNat = U 14 x.toNat from h.f h.e14]
        rfl
      have h2 := h1.addW (b := U 17 0) (w := w) (by show 0 ≤ U 17 0 ∧ U 17 0 < U 17 0 + 1; omega) (by show vS U 18 (U 17 0).toNat 0 18 (U 17 0).toNat < 4; rw [vS_s]; decide) hw2.1 hw2.2
      rw [eU, eV, h.s42]
      unfold mAdds
      have z1 : zB U (U 17 0).toNat x.toNat (U 13 x.toNat) (U 14 x.toNat) g (U 17 0) 23 (U 17 0).toNat = wB (vS V 0 0 0) (U 17 0).toNat x.toNat (U 13 x.toNat) (U 14 x.toNat) g (U 17 0) 23 (U 17 0).toNat := congrFun h1.e23 _
      rw [z1] at h2
      rw [e17]
      exact h2
    · rw [if_neg q2, if_neg (by omega)]
      refine ⟨rfl, rfl, ?_⟩
      have cA := h.cA x hx.1 hx.2 g15 (by omega)
      have h2 := h.thr (x := 0) |>.addW (b := U 16 x.toNat) (w := w) (by omega) (by omega) hw2.1 hw2.2
      unfold mAdds
      rw [show (vS V 0 0 0) 23 (U 16 x.toNat).toNat = U 23 (U 16 x.toNat).toNat from h.f h.e23]
      exact h2
theorem p_ask1 (h : RR U V) {x g : Int} (hc : ¬ (0 ≤ x ∧ x < U 11 0)) : (mAsk V x g).2 0 0 = 1 ∧ RR U (mAsk V x g).2 := by
  have hT : mAskT V x g = 1 := if_pos (fun n => hc ((isCl_U h).mp n))
  unfold mAsk
  rw [hT, if_pos (by decide)]
  exact ⟨rfl, h.thr⟩
theorem p_ask2 (h : RR U V) {x g : Int} (hc : (0 ≤ x ∧ x < U 11 0) ∧ ¬ isGr g) : (mAsk V x g).2 0 0 = 2 ∧ RR U (mAsk V x g).2 := by
  have hT : mAskT V x g = 2 := by
    unfold mAskT
    rw [if_neg (fun n => n ((isCl_U h).mpr hc.1)), if_pos hc.2]
  unfold mAsk
  rw [hT, if_pos (by decide)]
  exact ⟨rfl, h.thr⟩
theorem p_ask3 (h : RR U V) {x g : Int} (hc : ((0 ≤ x ∧ x < U 11 0) ∧ isGr g) ∧ ¬ (¬ U 15 x.toNat = 0 ∧ (U 16 x.toNat < 0 ∧ U 17 0 < 40 ∨ ¬ U 16 x.toNat < 0 ∧ U 19 (U 16 x.toNat).toNat = g))) : (mAsk V x g).2 0 0 = 3 ∧ RR U (mAsk V x g).2 := by
  have e17 : V 17 0 = U 17 0 := h.f h.e17
  have hT : mAskT V x g = 3 := by
    unfold mAskT
    rw [if_neg (fun n => n ((isCl_U h).mpr hc.1.1)), if_neg (fun n => n hc.1.2), h.f h.e15]
    by_cases q : U 15 x.toNat = 0
    · rw [if_pos q]
    · rw [if_neg q]
      obtain ⟨g15, v15, v16, g16⟩ := goes_U h hc.1.1 q
      rw [v16, e17, h.f h.e19, if_neg]
      intro z
      exact hc.2 ⟨q, by omega⟩
  unfold mAsk
  rw [hT, if_pos (by decide)]
  exact ⟨rfl, h.thr⟩
/-- the hypotheses about room of both walks -/
theorem ask_hm (h : RR U V) {x g : Int} (hx : 0 ≤ x ∧ x < U 11 0) (hg : ¬ U 15 x.toNat = 0) (q : ¬ U 16 x.toNat < 0) (qf : ¬ uFind U (U 14 x.toNat) g < 0) : U 23 (U 16 x.toNat).toNat < 30 := by
  obtain ⟨g15, v15, v16, g16⟩ := goes_U h hx hg
  have cA := h.cA x hx.1 hx.2 g15 (by omega)
  have hp := uFo_p h (y := U 14 x.toNat) (g := g) (h.i14 x hx.1 hx.2) 5 (Nat.le_refl _)
  rw [show (uFo U (U 14 x.toNat) g 5).1 = uFind U (U 14 x.toNat) g from rfl] at hp
  exact room_U h (w := uFind U (U 14 x.toNat) g) (by omega) (by omega) (by omega) (by omega)
end
