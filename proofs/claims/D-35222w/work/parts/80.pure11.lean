/-! PURE LAW: one event more; a wagon comes -/
theorem ev_R {U U' : gV} (h1 : ∀ e : Nat, (e : Int) < U 33 0 → U' 34 e = U 34 e ∧ U' 35 e = U 35 e ∧ U' 36 e = U 36 e ∧ U' 37 e = U 37 e) (h25 : U 25 0 ≤ U' 25 0) (h33 : U' 33 0 = U 33 0 + 1) (h0 : 0 ≤ U 33 0) (hR : uRp U) (hok : rOk U' (rp U (U 33 0).toNat) (U 33 0).toNat) : uRp U' := by
  intro e he
  rw [h33] at he
  have ec : rp U' e = rp U e := rp_c e (fun i hi => h1 i (by omega))
  rw [ec]
  by_cases q : (e : Int) < U 33 0
  · obtain ⟨a, b, c, d⟩ := h1 e q
    exact rOk_c a b c d h25 (hR e q)
  · have : e = (U 33 0).toNat := by omega
    subst this
    exact hok
theorem ev_A {U U' : gV} (h1 : ∀ e : Nat, (e : Int) < U 33 0 → U' 34 e = U 34 e ∧ U' 35 e = U 35 e ∧ U' 36 e = U 36 e ∧ U' 37 e = U 37 e) (h33 : U' 33 0 = U 33 0 + 1) (h0 : 0 ≤ U 33 0) : rp U' (U' 33 0).toNat = rpS U' (rp U (U 33 0).toNat) (U 33 0).toNat := by
  rw [h33, show (U 33 0 + 1).toNat = (U 33 0).toNat + 1 by omega, rp, rp_c _ (fun i hi => h1 i (by omega))]
theorem uPut_c {X Y : gV} {p w : Int} (h6 : X 6 = Y 6) (h7 : X 7 = Y 7) : uPut X p w 6 = uPut Y p w 6 ∧ uPut X p w 7 = uPut Y p w 7 := by
  constructor
  · funext i
    show vS X 6 p.toNat (X 6 p.toNat + 1) 6 i = vS Y 6 p.toNat (Y 6 p.toNat + 1) 6 i
    rw [vS_e, vS_e, h6]
  · funext i
    show vS X 7 (6 * p + X 6 p.toNat).toNat w 7 i = vS Y 7 (6 * p + Y 6 p.toNat).toNat w 7 i
    rw [vS_e, vS_e, h6, h7]
def zW (U : gV) (p w e : Int) : gV := vS (vS (vS (vS (vS (vS (vS (vS (vS (vS (vS (vS (vS U 3 w.toNat p) 4 w.toNat (-1)) 5 w.toNat (-1)) 41 0 (w + 1)) 2 0 (w + 1)) 7 (6 * p + U 6 p.toNat).toNat w) 6 p.toNat (U 6 p.toNat + 1)) 34 e.toNat 0) 35 e.toNat w) 36 e.toNat p) 37 e.toNat 0) 46 0 (e + 1)) 33 0 (e + 1)
section
variable {U V : gV}
theorem uWag_z (h : RR U V) {p : Int} : uWag U p = zW U p (U 2 0) (U 33 0) := by
  have e : uWag U p = zW U p (U 2 0) (U 33 0) := by
    unfold uWag
    have a1 : (uPut (vS (uW U p) 2 0 (uW U p 2 0 + 1)) p (U 41 0)) 46 0 = U 33 0 := h.s46
    unfold uEv
    rw [a1]
    unfold uPut uW
    rw [h.s41]
    rfl
  exact e
theorem RR.wag (h : RR U V) {y t p : Int} (hp : p = 5 * y + t) (hc : isTrk y t) (h30 : U 2 0 < 30) (h6 : U 6 p.toNat < 6) (hev : U 33 0 < 64) : RR (zW U p (U 2 0) (U 33 0)) (vS (vS (vS (vS (vS (vS V 4 (U 2 0).toNat (-1)) 5 (U 2 0).toNat (-1)) 7 (6 * p + U 6 p.toNat).toNat (U 2 0)) 6 p.toNat (U 6 p.toNat + 1)) 3 (U 2 0).toNat (10 * y + t)) 2 0 (U 2 0 + 1)) := by
  have s2 := h.s2
  have s33 := h.s33
  have s17 := h.s17
  refine RR.mk (e1 := h.e1) (e2 := funext fun i => by show vS U 2 0 (U 2 0 + 1) 2 i = vS V 2 0 (U 2 0 + 1) 2 i; rw [vSf h.e2]) (e4 := funext fun i => by show vS U 4 (U 2 0).toNat (-1) 4 i = vS V 4 (U 2 0).toNat (-1) 4 i; rw [vSf h.e4]) (e6 := funext fun i => by show vS U 6 p.toNat (U 6 p.toNat + 1) 6 i = vS V 6 p.toNat (U 6 p.toNat + 1) 6 i; rw [vSf h.e6]) (e7 := funext fun i => by show vS U 7 (6 * p + U 6 p.toNat).toNat (U 2 0) 7 i = vS V 7 (6 * p + U 6 p.toNat).toNat (U 2 0) 7 i; rw [vSf h.e7]) (e10 := h.e10) (e11 := h.e11) (e12 := h.e12) (e13 := h.e13) (e14 := h.e14) (e15 := h.e15) (e17 := h.e17) (e18 := h.e18) (e19 := h.e19) (e20 := h.e20) (e21 := h.e21) (e23 := h.e23) (e24 := h.e24) (e25 := h.e25) (e26 := h.e26) (e27 := h.e27) (e28 := h.e28) (e29 := h.e29) (s1 := h.s1) (s2 := ?_) (s11 := h.s11) (s17 := h.s17) (s25 := h.s25) (s33 := ?_) (s41 := ?_) (s42 := h.s42) (s43 := h.s43) (s45 := h.s45) (s46 := ?_) (i3 := ?_) (i4 := ?_) (i5 := ?_) (i6 := ?_) (i7 := ?_) (i8 := h.i8) (i9 := h.i9) (i30 := h.i30) (i10 := h.i10) (i13 := h.i13) (i14 := h.i14) (i15 := h.i15) (i16 := h.i16) (i31 := h.i31) (i32 := h.i32) (i18 := h.i18) (i19 := h.i19) (i20 := h.i20) (i21 := h.i21) (i22 := h.i22) (i23 := h.i23) (i24 := ?_) (i26 := h.i26) (i27 := h.i27) (i28 := h.i28) (i29 := ?_) (i34 := ?_) (r3 := ?_) (r5 := ?_) (v5 := ?_) (r8 := h.r8) (v8 := h.v8) (r9 := h.r9) (c9 := h.c9) (r16 := h.r16) (v16 := h.v16) (r22 := h.r22) (v22 := h.v22) (o9 := h.o9) (oA := h.oA) (oC := h.oC) (oD := h.oD) (bA := ?_) (bD := h.bD) (bB := ?_) (bC := ?_) (tA := ?_) (tD := ?_) (t27 := h.t27) (cA := h.cA) (cD := h.cD) (u1 := h.u1) (nT := h.nT) (rR := ?_) (rA := ?_)
  · show 0 ≤ U 2 0 + 1 ∧ U 2 0 + 1 ≤ 30
    omega
  · show 0 ≤ U 33 0 + 1 ∧ U 33 0 + 1 ≤ 64
    omega
  · show U 2 0 + 1 = U 2 0 + 1
    rfl
  · show U 33 0 + 1 = U 33 0 + 1
    rfl
  · intro j a b
    have b2 : j < U 2 0 + 1 := b
    show -1 ≤ vS U 3 (U 2 0).toNat p 3 j.toNat ∧ vS U 3 (U 2 0).toNat p 3 j.toNat ≤ 14
    rw [vS_e]
    split
    · omega
    · exact h.i3 j a (by omega)
  · intro j a b
    have b2 : j < U 2 0 + 1 := b
    show -1 ≤ vS U 4 (U 2 0).toNat (-1) 4 j.toNat ∧ vS U 4 (U 2 0).toNat (-1) 4 j.toNat ≤ 3
    rw [vS_e]
    split
    · decide
    · exact h.i4 j a (by omega)
  · intro j a b
    have b2 : j < U 2 0 + 1 := b
    show -1 ≤ vS U 5 (U 2 0).toNat (-1) 5 j.toNat ∧ vS U 5 (U 2 0).toNat (-1) 5 j.toNat < U 17 0
    rw [vS_e]
    split
    · omega
    · exact h.i5 j a (by omega)
  · intro j a b
    show 0 ≤ vS U 6 p.toNat (U 6 p.toNat + 1) 6 j.toNat ∧ vS U 6 p.toNat (U 6 p.toNat + 1) 6 j.toNat ≤ 6
    have := h.i6 j a b
    rw [vS_e]
    split
    · rename_i m
      rw [m] at this
      omega
    · exact this
  · intro q k a b e e1
    have e2 : k < vS U 6 p.toNat (U 6 p.toNat + 1) 6 q.toNat := e1
    show 0 ≤ vS U 7 (6 * p + U 6 p.toNat).toNat (U 2 0) 7 (6 * q + k).toNat ∧ vS U 7 (6 * p + U 6 p.toNat).toNat (U 2 0) 7 (6 * q + k).toNat < U 2 0 + 1
    have j6 := h.i6 q a b
    rw [vS_e] at e2 ⊢
    split
    · omega
    · rename_i m
      have hk : k < U 6 q.toNat := by
        split at e2
        · rename_i z
          have : q = p := by omega
          subst this
          omega
        · exact e2
      have := h.i7 q k a b e hk
      omega
  · intro b k a b9 e e1
    have := h.i24 b k a b9 e e1
    show 0 ≤ U 24 (30 * b + k).toNat ∧ U 24 (30 * b + k).toNat < U 2 0 + 1
    omega
  · intro b k a b9 e e1
    have := h.i29 b k a b9 e e1
    show 0 ≤ U 29 (6 * b + k).toNat ∧ U 29 (6 * b + k).toNat < U 2 0 + 1
    omega
  · intro j a b
    have b2 : j < U 33 0 + 1 := b
    show 0 ≤ vS U 34 (U 33 0).toNat 0 34 j.toNat ∧ vS U 34 (U 33 0).toNat 0 34 j.toNat ≤ 3
    rw [vS_e]
    split
    · decide
    · exact h.i34 j a (by omega)
  · intro i
    show vS V 3 (U 2 0).toNat (10 * y + t) 3 i = if vS U 3 (U 2 0).toNat p 3 i = -1 then -1 else 10 * (vS U 3 (U 2 0).toNat p 3 i / 5) + vS U 3 (U 2 0).toNat p 3 i % 5
    rw [vS_e, vS_e]
    split
    · rw [if_neg (by omega)]; omega
    · exact h.r3 i
  · intro j a b
    have b2 : j < U 2 0 + 1 := b
    show vS U 5 (U 2 0).toNat (-1) 5 j.toNat = if vS V 5 (U 2 0).toNat (-1) 5 j.toNat < 0 ∨ 4 ≤ U 18 (vS V 5 (U 2 0).toNat (-1) 5 j.toNat).toNat then -1 else vS V 5 (U 2 0).toNat (-1) 5 j.toNat
    rw [vS_e, vS_e]
    split
    · rw [if_pos (Or.inl (by decide))]
    · exact h.r5 j a (by omega)
  · intro j a b
    have b2 : j < U 2 0 + 1 := b
    show -1 ≤ vS V 5 (U 2 0).toNat (-1) 5 j.toNat ∧ vS V 5 (U 2 0).toNat (-1) 5 j.toNat < U 17 0
    rw [vS_e]
    split
    · omega
    · exact h.v5 j a (by omega)
  · intro b j a c q e e1
    have i := h.i24 b j a c e e1
    show vS U 5 (U 2 0).toNat (-1) 5 (U 24 (30 * b + j).toNat).toNat = b
    rw [vS_i (by omega)]
    exact h.bA b j a c q e e1
  · intro j a b q
    have b2 : j < U 2 0 + 1 := b
    have q2 : 0 ≤ vS U 5 (U 2 0).toNat (-1) 5 j.toNat := q
    show U 18 (vS U 5 (U 2 0).toNat (-1) 5 j.toNat).toNat < 4
    rw [vS_e] at q2 ⊢
    split at q2
    · exact absurd q2 (by decide)
    · rename_i m
      rw [if_neg m]
      exact h.bB j a (by omega) q2
  · intro j a b q
    have b2 : j < U 2 0 + 1 := b
    have q2 : 0 ≤ vS U 5 (U 2 0).toNat (-1) 5 j.toNat := q
    show ∃ i : Int, 0 ≤ i ∧ i < U 23 (vS U 5 (U 2 0).toNat (-1) 5 j.toNat).toNat ∧ U 24 (30 * vS U 5 (U 2 0).toNat (-1) 5 j.toNat + i).toNat = j
    rw [vS_e] at q2 ⊢
    split at q2
    · exact absurd q2 (by decide)
    · rename_i m
      rw [if_neg m]
      exact h.bC j a (by omega) q2
  · intro r k a c d e f
    have i := h.i29 r k a c e f
    show 0 ≤ vS U 5 (U 2 0).toNat (-1) 5 (U 29 (6 * r + k).toNat).toNat ∧ U 18 (vS U 5 (U 2 0).toNat (-1) 5 (U 29 (6 * r + k).toNat).toNat).toNat = 3
    rw [vS_i (by omega)]
    exact h.tA r k a c d e f
  · intro r r' k k' a c d a' c' d' e e1 e' e1' hq
    have i := h.i29 r k a c e e1
    have i' := h.i29 r' k' a' c' e' e1'
    have hq2 : vS U 5 (U 2 0).toNat (-1) 5 (U 29 (6 * r + k).toNat).toNat = vS U 5 (U 2 0).toNat (-1) 5 (U 29 (6 * r' + k').toNat).toNat := hq
    rw [vS_i (by omega), vS_i (by omega)] at hq2
    exact h.tD r r' k k' a c d a' c' d' e e1 e' e1' hq2
  · have i6 := h.i6 p (by omega) (by omega)
    have r6 : rp U (U 33 0).toNat 6 = U 6 := h.rA 6 (Or.inl rfl)
    have r25 : rp U (U 33 0).toNat 25 = U 25 := h.rA 25 (Or.inr (Or.inr (Or.inl rfl)))
    have k0 : vS U 34 (U 33 0).toNat 0 34 (U 33 0).toNat = 0 := vS_s
    have k2 : vS U 36 (U 33 0).toNat p 36 (U 33 0).toNat = p := vS_s
    refine ev_R (U := U) (U' := zW U p (U 2 0) (U 33 0)) (fun e he => by refine ⟨?_, ?_, ?_, ?_⟩; (show vS U 34 (U 33 0).toNat 0 34 e = U 34 e; rw [vS_i (by omega)]); (show vS U 35 (U 33 0).toNat (U 2 0) 35 e = U 35 e; rw [vS_i (by omega)]); (show vS U 36 (U 33 0).toNat p 36 e = U 36 e; rw [vS_i (by omega)]); (show vS U 37 (U 33 0).toNat 0 37 e = U 37 e; rw [vS_i (by omega)])) (Int.le_refl _) rfl h.s33.1 h.rR ⟨⟨by rw [r25]; exact h.s25.1, by rw [r25]; exact Int.le_refl _⟩, fun _ => ?_, fun z => absurd (k0.symm.trans z) (by decide), fun z => absurd (k0.symm.trans z) (by decide), fun z => absurd (k0.symm.trans z) (by decide)⟩
    show (0 ≤ vS U 36 (U 33 0).toNat p 36 (U 33 0).toNat ∧ vS U 36 (U 33 0).toNat p 36 (U 33 0).toNat < 15) ∧ 0 ≤ rp U (U 33 0).toNat 6 (vS U 36 (U 33 0).toNat p 36 (U 33 0).toNat).toNat ∧ rp U (U 33 0).toNat 6 (vS U 36 (U 33 0).toNat p 36 (U 33 0).toNat).toNat < 6
    rw [k2, r6]
    omega
  · intro k hk
    have k0 : vS U 34 (U 33 0).toNat 0 34 (U 33 0).toNat = 0 := vS_s
    have k1 : vS U 35 (U 33 0).toNat (U 2 0) 35 (U 33 0).toNat = U 2 0 := vS_s
    have k2 : vS U 36 (U 33 0).toNat p 36 (U 33 0).toNat = p := vS_s
    rw [ev_A (U := U) (U' := zW U p (U 2 0) (U 33 0)) (fun e he => by refine ⟨?_, ?_, ?_, ?_⟩; (show vS U 34 (U 33 0).toNat 0 34 e = U 34 e; rw [vS_i (by omega)]); (show vS U 35 (U 33 0).toNat (U 2 0) 35 e = U 35 e; rw [vS_i (by omega)]); (show vS U 36 (U 33 0).toNat p 36 e = U 36 e; rw [vS_i (by omega)]); (show vS U 37 (U 33 0).toNat 0 37 e = U 37 e; rw [vS_i (by omega)])) rfl h.s33.1]
    have e : rpS (zW U p (U 2 0) (U 33 0)) (rp U (U 33 0).toNat) (U 33 0).toNat = uPut (rp U (U 33 0).toNat) p (U 2 0) := by
      show (if vS U 34 (U 33 0).toNat 0 34 (U 33 0).toNat = 0 then uPut (rp U (U 33 0).toNat) (vS U 36 (U 33 0).toNat p 36 (U 33 0).toNat) (vS U 35 (U 33 0).toNat (U 2 0) 35 (U 33 0).toNat) else _) = _
      rw [if_pos k0, k1, k2]
    rw [e]
    have c := uPut_c (p := p) (w := U 2 0) (h.rA 6 (Or.inl rfl)) (h.rA 7 (Or.inr (Or.inl rfl)))
    rcases hk with rfl | rfl | rfl | rfl | rfl
    · exact c.1
    · exact c.2
    · exact h.rA 25 (Or.inr (Or.inr (Or.inl rfl)))
    · exact h.rA 28 (Or.inr (Or.inr (Or.inr (Or.inl rfl))))
    · exact h.rA 29 (Or.inr (Or.inr (Or.inr (Or.inr rfl))))
theorem p_wagon0 (h : RR U V) {y t : Int} (hc : isTrk y t ∧ U 2 0 < 30 ∧ U 6 (5 * y + t).toNat < 6) (hev : U 33 0 < 64) : (mWagon V y t).1 = U 41 0 ∧ (mWagon V y t).2 0 0 = 0 ∧ RR (uWag U (5 * y + t)) (mWagon V y t).2 := by
  have e2 : V 2 0 = U 2 0 := h.f h.e2
  have e6 : V 6 (5 * y + t).toNat = U 6 (5 * y + t).toNat := h.f h.e6
  have s2 := h.s2
  have hT : mWagonT V y t = 0 := by
    unfold mWagonT
    rw [if_neg (fun n => n hc.1), e2, e6, if_neg (by omega)]
  have h1 := (h.thr (x := 0)).wag (p := 5 * y + t) rfl hc.1 hc.2.1 hc.2.2 hev
  rw [uWag_z h]
  unfold mWagon
  rw [hT, if_neg (by decide), e2]
  refine ⟨?_, rfl, ?_⟩
  · show V 2 0 + 1 - 1 = U 41 0
    rw [h.s41]; omega
  · have e9 : mPuts (vS (vS (vS V 0 0 0) 4 (U 2 0).toNat (-1)) 5 (U 2 0).toNat (-1)) y t (U 2 0) = vS (vS (vS (vS (vS (vS V 0 0 0) 4 (U 2 0).toNat (-1)) 5 (U 2 0).toNat (-1)) 7 (6 * (5 * y + t) + U 6 (5 * y + t).toNat).toNat (U 2 0)) 6 (5 * y + t).toNat (U 6 (5 * y + t).toNat + 1)) 3 (U 2 0).toNat (10 * y + t) := by
      unfold mPuts
      rw [show (vS (vS (vS V 0 0 0) 4 (U 2 0).toNat (-1)) 5 (U 2 0).toNat (-1)) 6 (5 * y + t).toNat = U 6 (5 * y + t).toNat from e6]
    rw [e9]
    have e8 : (vS (vS (vS (vS (vS (vS V 0 0 0) 4 (U 2 0).toNat (-1)) 5 (U 2 0).toNat (-1)) 7 (6 * (5 * y + t) + U 6 (5 * y + t).toNat).toNat (U 2 0)) 6 (5 * y + t).toNat (U 6 (5 * y + t).toNat + 1)) 3 (U 2 0).toNat (10 * y + t)) 2 0 = U 2 0 := e2
    rw [e8]
    exact h1
theorem p_wagon1 (h : RR U V) {y t : Int} (hc : ¬ isTrk y t) : (mWagon V y t).2 0 0 = 1 ∧ RR U (mWagon V y t).2 := by
  have hT : mWagonT V y t = 1 := if_pos hc
  unfold mWagon
  rw [hT, if_pos (by decide)]
  exact ⟨rfl, h.thr⟩
theorem p_wagon2 (h : RR U V) {y t : Int} (hc : isTrk y t ∧ ¬ (U 2 0 < 30 ∧ U 6 (5 * y + t).toNat < 6)) : (mWagon V y t).2 0 0 = 2 ∧ RR U (mWagon V y t).2 := by
  have e2 : V 2 0 = U 2 0 := h.f h.e2
  have e6 : V 6 (5 * y + t).toNat = U 6 (5 * y + t).toNat := h.f h.e6
  have s2 := h.s2
  have i6 := h.i6 (5 * y + t) (by omega) (by omega)
  have hT : mWagonT V y t = 2 := by
    unfold mWagonT
    rw [if_neg (fun n => n hc.1), e2, e6, if_pos (by omega)]
  unfold mWagon
  rw [hT, if_pos (by decide)]
  exact ⟨rfl, h.thr⟩
end
