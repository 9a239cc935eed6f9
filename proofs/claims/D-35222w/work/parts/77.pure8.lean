/-! PURE LAW: calls by callers -/
section
variable {U V : gV}
theorem FB_eq (h : RR U V) {a b : Int} (hab : (0 ≤ a ∧ a ≤ 2) ∧ (0 ≤ b ∧ b ≤ 2) ∧ ¬ a = b) : mFB V a b = uFB U a b := by
  have q : ∀ t : Int, 0 ≤ t → t < 6 → (V 9 t.toNat = -1 ↔ uFr U t) := fun t t0 t1 => by
    have r := h.r9 t t0 t1
    have i := h.i9 t t0 t1
    have i30 := h.i30 t t0 t1
    unfold uFr
    rw [r]
    split <;> omega
  have q1 := q (2 * (a + b - 1)) (by omega) (by omega)
  have q2 := q (2 * (a + b - 1) + 1) (by omega) (by omega)
  unfold mFB uFB
  by_cases z1 : uFr U (2 * (a + b - 1))
  · rw [if_pos z1, if_pos (q1.mpr z1)]
  · rw [if_neg z1, if_neg (fun z => z1 (q1.mp z))]
    by_cases z2 : uFr U (2 * (a + b - 1) + 1)
    · rw [if_pos z2, if_pos (q2.mpr z2)]
    · rw [if_neg z2, if_neg (fun z => z2 (q2.mp z))]
theorem FB_free (h : RR U V) {a b x : Int} (hab : (0 ≤ a ∧ a ≤ 2) ∧ (0 ≤ b ∧ b ≤ 2) ∧ ¬ a = b) (hx : uFB U a b = x) (h0 : 0 ≤ x) : ((0 ≤ x ∧ x < 6) ∧ U 9 x.toNat = -1 ∧ ¬ U 30 x.toNat = 1) ∧ (x = 2 * (a + b - 1) ∨ x = 2 * (a + b - 1) + 1) := by
  have g : ∀ t : Int, 0 ≤ t → t < 6 → uFr U t → U 9 t.toNat = -1 ∧ ¬ U 30 t.toNat = 1 := fun t t0 t1 z => by
    have i := h.i9 t t0 t1
    unfold uFr at z
    omega
  unfold uFB at hx
  split at hx
  · rename_i z
    subst hx
    exact ⟨⟨by omega, g _ (by omega) (by omega) z⟩, Or.inl rfl⟩
  · split at hx
    · rename_i z
      subst hx
      exact ⟨⟨by omega, g _ (by omega) (by omega) z⟩, Or.inr rfl⟩
    · omega
theorem zU_0 (h : RR U V) {c y : Int} : vS (uNew U c y (0, 0, 0)) 11 0 (uNew U c y (0, 0, 0) 11 0 + 1) = zU U (U 9) (U 11 0).toNat c y 0 0 0 (U 11 0 + 1) := by
  have e : uNew U c y (0, 0, 0) = uC U c y 0 0 0 := rfl
  rw [e]
  unfold uC
  rw [h.s43]
  funext k i
  unfold zU
  by_cases h9 : k = 9
  · subst h9; rfl
  · rw [if_neg h9]; rfl
theorem zU_1 (h : RR U V) {c y x : Int} : vS (uNew U c y (1, x, 0)) 11 0 (uNew U c y (1, x, 0) 11 0 + 1) = zU U (vS U 9 x.toNat (U 11 0) 9) (U 11 0).toNat c y 1 x 0 (U 11 0 + 1) := by
  have s11 := h.s11
  have e : uNew U c y (1, x, 0) = vS (uC U c y 1 x 0) 9 (uC U c y 1 x 0 32 (2 * U 43 0 + ((0 : Nat) : Int)).toNat).toNat (U 43 0) := rfl
  have e2 : uC U c y 1 x 0 32 (2 * U 43 0 + ((0 : Nat) : Int)).toNat = x := by
    show vS (vS _ 32 (2 * (U 43 0).toNat) x) 32 (2 * (U 43 0).toNat + 1) 0 32 _ = x
    rw [h.s43, vS_i (by omega), show (2 * U 11 0 + ((0 : Nat) : Int)).toNat = 2 * (U 11 0).toNat by omega, vS_s]
  rw [e, e2]
  unfold uC
  rw [h.s43]
  funext k i
  unfold zU
  by_cases h9 : k = 9
  · subst h9; rfl
  · rw [if_neg h9]
    unfold vS
    simp only [h9, false_and, if_false]
    rfl
theorem zU_2 (h : RR U V) {c y x x1 : Int} : vS (uNew U c y (2, x, x1)) 11 0 (uNew U c y (2, x, x1) 11 0 + 1) = zU U (vS (vS U 9 x.toNat (U 11 0)) 9 x1.toNat (U 11 0) 9) (U 11 0).toNat c y 2 x x1 (U 11 0 + 1) := by
  have s11 := h.s11
  have e : uNew U c y (2, x, x1) = vS (vS (uC U c y 2 x x1) 9 (uC U c y 2 x x1 32 (2 * U 43 0 + ((0 : Nat) : Int)).toNat).toNat (U 43 0)) 9 (uC U c y 2 x x1 32 (2 * U 43 0 + ((1 : Nat) : Int)).toNat).toNat (U 43 0) := rfl
  have e2 : uC U c y 2 x x1 32 (2 * U 43 0 + ((0 : Nat) : Int)).toNat = x := by
    show vS (vS _ 32 (2 * (U 43 0).toNat) x) 32 (2 * (U 43 0).toNat + 1) x1 32 _ = x
    rw [h.s43, vS_i (by omega), show (2 * U 11 0 + ((0 : Nat) : Int)).toNat = 2 * (U 11 0).toNat by omega, vS_s]
  have e3 : uC U c y 2 x x1 32 (2 * U 43 0 + ((1 : Nat) : Int)).toNat = x1 := by
    show vS (vS _ 32 (2 * (U 43 0).toNat) x) 32 (2 * (U 43 0).toNat + 1) x1 32 _ = x1
    rw [h.s43, show (2 * U 11 0 + ((1 : Nat) : Int)).toNat = 2 * (U 11 0).toNat + 1 by omega, vS_s]
  rw [e, e2, e3]
  unfold uC
  rw [h.s43]
  funext k i
  unfold zU
  by_cases h9 : k = 9
  · subst h9; rfl
  · rw [if_neg h9]
    unfold vS
    simp only [h9, false_and, if_false]
    rfl
theorem zV_e {W : gV} {g : Nat → Int} {c y e : Int} {W9 : gV} (hk : ∀ k, k ≠ 9 → W9 k = W k) (h9 : W9 9 = g) (h11 : W 11 0 = e) : mCallV W9 c y = zV W g e.toNat c y (e + 1) := by
  subst h9
  have q11 : W9 11 0 = e := (congrFun (hk 11 (by decide)) 0).trans h11
  unfold mCallV
  rw [q11]
  funext k i
  unfold zV
  by_cases e9 : k = 9
  · subst e9; rfl
  · rw [if_neg e9]
    unfold vS
    rw [hk k e9]
theorem CH_eq {k x : Int} {z : Int} {F : gV} (h0 : 0 ≤ k) (hx : 0 ≤ x) : vS F 9 x.toNat z 9 k.toNat = if k = x then z else F 9 k.toNat := by
  rw [vS_e]
  by_cases e : k = x
  · rw [if_pos e, if_pos (by omega)]
  · rw [if_neg e, if_neg (by omega)]
theorem p_call0 (h : RR U V) {c y : Int} (hc : (0 ≤ c ∧ c ≤ 5) ∧ isYd y ∧ uCN U c (U 11 0).toNat = -1 ∧ U 11 0 < 60) : (mCall V c y).1 = (uCall U c y).1 ∧ (mCall V c y).2 0 0 = 0 ∧ RR (uCall U c y).2 (mCall V c y).2 := by
  obtain ⟨hc1, hy, hcn, h60⟩ := hc
  have e11 : V 11 0 = U 11 0 := h.f h.e11
  have e12 : V 12 0 = U 12 0 := h.f h.e12
  have s11 := h.s11
  have hT : mCallT V c y = 0 := by
    unfold mCallT
    rw [if_neg (by omega), CN_eq h, hcn, if_neg (by omega)]
  have hno : ∀ c9 : Int, 0 ≤ c9 → c9 < U 11 0 → U 15 c9.toNat = 1 → ¬ U 13 c9.toNat = c := fun c9 a b d e => by
    have := uCN_some (U := U) (c := c) (U 11 0).toNat c9.toNat (by omega) ⟨by omega, e⟩ (fun j hj hj2 => by
      have r15 : U 15 j = 0 ∨ U 15 j = 1 := h.i15 (j : Int) (by omega) (by omega)
      have := h.u1 (j : Int) c9 (by omega) (by omega) (show U 15 j = 1 by omega) a b d (hj2.2.trans e.symm)
      omega)
    omega
  have ht := h.thr (x := 0)
  have p12 : RR (vS U 12 0 (U 12 0 + 1)) (vS (vS V 0 0 0) 12 0 (V 12 0 + 1)) := by rw [e12]; exact ht.p12
  unfold mCall uCall
  rw [hT, if_neg (by decide), show mCT (vS V 0 0 0) y (V 11 0).toNat = uIU U y (U 11 0).toNat from IU_eq ht, show V 10 y.toNat = U 10 y.toNat from h.f h.e10]
  by_cases q : U 10 y.toNat ≤ uIU U y (U 11 0).toNat
  · rw [if_pos q, if_pos (Or.inl q)]
    exact ⟨rfl, rfl, p12⟩
  · rw [if_neg q]
    obtain ⟨f, hf⟩ : ∃ f : Int, c % 3 = f := ⟨_, rfl⟩
    have hf2 : 0 ≤ f ∧ f ≤ 2 := by omega
    rw [hf]
    have b1 : (fun c9 d9 => U c9 d9) = U := rfl
    have nq : ∀ w : Int × Int × Int, ¬ w.1 < 0 → ¬ (U 10 y.toNat ≤ uIU U y (U 11 0).toNat ∨ w.1 < 0) := fun w hw z => z.elim q hw
    by_cases q1 : f = y
    · have eW : uWay U f y = (0, 0, 0) := by unfold uWay; rw [if_pos q1]
      have yT : mTWb (vS V 0 0 0) f y := Or.inl q1
      rw [eW, if_pos yT, if_neg (nq (0, 0, 0) (by decide))]
      have eT : mTWv (vS V 0 0 0) f y = vS V 0 0 0 := by unfold mTWv; rw [if_pos q1]
      rw [eT, zU_0 h, zV_e (W := vS V 0 0 0) (g := (vS V 0 0 0) 9) (e := U 11 0) (fun _ _ => rfl) rfl e11]
      refine ⟨by show V 11 0 + 1 - 1 = U 11 0; omega, rfl, ?_⟩
      exact ht.call hc1 hy h60 hno (Or.inl rfl) (fun k _ _ => by rw [if_neg (by omega)]) (fun k _ _ => by rw [if_neg (by omega)]) (fun z => absurd z (by decide)) (fun z => absurd z (by decide))
    · have hfy : (0 ≤ f ∧ f ≤ 2) ∧ (0 ≤ y ∧ y ≤ 2) ∧ ¬ f = y := ⟨hf2, hy, q1⟩
      have eF := FB_eq ht hfy
      by_cases q2 : uFB U f y < 0
      · have r2 := uFB_r U hfy
        have hm1 : (0 ≤ f ∧ f ≤ 2) ∧ (0 ≤ 3 - f - y ∧ 3 - f - y ≤ 2) ∧ ¬ f = 3 - f - y := by omega
        have hm2 : (0 ≤ 3 - f - y ∧ 3 - f - y ≤ 2) ∧ (0 ≤ y ∧ y ≤ 2) ∧ ¬ 3 - f - y = y := by omega
        have eF1 := FB_eq ht hm1
        have eF2 := FB_eq ht hm2
        have r3 := uFB_r U hm1
        have r4 := uFB_r U hm2
        by_cases q3 : uFB U f (3 - f - y) < 0 ∨ uFB U (3 - f - y) y < 0
        · have eW : uWay U f y = (-1, 0, 0) := by unfold uWay; rw [if_neg q1, if_neg (fun z => z q2), if_pos q3]
          have nT : ¬ mTWb (vS V 0 0 0) f y := by
            unfold mTWb
            rw [eF, eF1, eF2]
            omega
          have eT : mTWv (vS V 0 0 0) f y = vS V 0 0 0 := by
            unfold mTWv
            rw [if_neg q1, eF, if_neg (by omega), eF1, eF2, if_pos (by omega)]
          have yq : U 10 y.toNat ≤ uIU U y (U 11 0).toNat ∨ (((-1 : Int), (0 : Int), (0 : Int)) : Int × Int × Int).1 < 0 := Or.inr (by decide)
          rw [eW, if_neg nT, eT, if_pos yq]
          exact ⟨rfl, rfl, p12⟩
        · have yT : mTWb (vS V 0 0 0) f y := by
            unfold mTWb
            rw [eF, eF1, eF2]
            omega
          obtain ⟨x0, hx0⟩ : ∃ x : Int, uFB U f (3 - f - y) = x := ⟨_, rfl⟩
          obtain ⟨x1, hx1⟩ : ∃ x : Int, uFB U (3 - f - y) y = x := ⟨_, rfl⟩
          have g0 := FB_free h hm1 hx0 (by omega)
          have g1 := FB_free h hm2 hx1 (by omega)
          have eT : mTWv (vS V 0 0 0) f y = vS (vS (vS V 0 0 0) 9 x0.toNat (U 11 0)) 9 x1.toNat (U 11 0) := by
            unfold mTWv
            rw [if_neg q1, eF, if_neg (by omega), eF1, eF2, if_neg (by omega), hx0, hx1]
            show vS (vS (vS V 0 0 0) 9 x0.toNat (V 11 0)) 9 x1.toNat (V 11 0) = _
            rw [e11]
          have eW : uWay U f y = (2, x0, x1) := by unfold uWay; rw [if_neg q1, if_neg (fun z => z q2), if_neg q3, hx0, hx1]
          rw [eW, if_pos yT, eT, if_neg (nq (2, x0, x1) (show ¬ (2 : Int) < 0 by decide)), zU_2 h, zV_e (W := vS V 0 0 0) (g := vS (vS (vS V 0 0 0) 9 x0.toNat (U 11 0)) 9 x1.toNat (U 11 0) 9) (e := U 11 0) (fun k hk => by funext i; rw [vS_k hk, vS_k hk]) rfl e11]
          refine ⟨by show V 11 0 + 1 - 1 = U 11 0; omega, rfl, ?_⟩
          refine ht.call hc1 hy h60 hno (Or.inr (Or.inr rfl)) (fun k a b => ?_) (fun k a b => ?_) (fun _ => g0.1) (fun _ => ⟨g1.1.1, g1.1.2.1, g1.1.2.2, by omega⟩)
          · rw [CH_eq a (by omega), CH_eq a (by omega)]
            by_cases w1 : k = x1
            · rw [if_pos w1, if_pos (by omega)]
            · rw [if_neg w1]
              by_cases w0 : k = x0
              · rw [if_pos w0, if_pos (by omega)]
              · rw [if_neg w0, if_neg (by omega)]
          · rw [CH_eq a (by omega), CH_eq a (by omega)]
            by_cases w1 : k = x1
            · rw [if_pos w1, if_pos (by omega)]
            · rw [if_neg w1]
              by_cases w0 : k = x0
              · rw [if_pos w0, if_pos (by omega)]
              · rw [if_neg w0, if_neg (by omega)]
      · have yT : mTWb (vS V 0 0 0) f y := by
          unfold mTWb
          rw [eF]
          omega
        obtain ⟨x0, hx0⟩ : ∃ x : Int, uFB U f y = x := ⟨_, rfl⟩
        have g0 := FB_free h hfy hx0 (by omega)
        have eT : mTWv (vS V 0 0 0) f y = vS (vS V 0 0 0) 9 x0.toNat (U 11 0) := by
          unfold mTWv
          rw [if_neg q1, eF, if_pos (by omega), hx0]
          show vS (vS V 0 0 0) 9 x0.toNat (V 11 0) = _
          rw [e11]
        have eW : uWay U f y = (1, x0, 0) := by unfold uWay; rw [if_neg q1, if_pos q2, hx0]
        rw [eW, if_pos yT, eT, if_neg (nq (1, x0, 0) (show ¬ (1 : Int) < 0 by decide)), zU_1 h, zV_e (W := vS V 0 0 0) (g := vS (vS V 0 0 0) 9 x0.toNat (U 11 0) 9) (e := U 11 0) (fun k hk => by funext i; rw [vS_k hk]) rfl e11]
        refine ⟨by show V 11 0 + 1 - 1 = U 11 0; omega, rfl, ?_⟩
        refine ht.call hc1 hy h60 hno (Or.inr (Or.inl rfl)) (fun k a b => ?_) (fun k a b => ?_) (fun _ => g0.1) (fun z => absurd z (by decide))
        · rw [CH_eq a (by omega)]
          by_cases w0 : k = x0
          · rw [if_pos w0, if_pos (by omega)]
          · rw [if_neg w0, if_neg (by omega)]
        · rw [CH_eq a (by omega)]
          by_cases w0 : k = x0
          · rw [if_pos w0, if_pos (by omega)]
          · rw [if_neg w0, if_neg (by omega)]
theorem p_call1 (h : RR U V) {c y : Int} (hc : ¬ ((0 ≤ c ∧ c ≤ 5) ∧ isYd y)) : (mCall V c y).2 0 0 = 1 ∧ RR U (mCall V c y).2 := by
  have hT : mCallT V c y = 1 := if_pos hc
  unfold mCall
  rw [hT, if_pos (by decide)]
  exact ⟨rfl, h.thr⟩
theorem p_call2 (h : RR U V) {c y : Int} (hc : ((0 ≤ c ∧ c ≤ 5) ∧ isYd y) ∧ ¬ (uCN U c (U 11 0).toNat = -1 ∧ U 11 0 < 60)) : (mCall V c y).2 0 0 = 2 ∧ RR U (mCall V c y).2 := by
  have e11 : V 11 0 = U 11 0 := h.f h.e11
  have s11 := h.s11
  have hT : mCallT V c y = 2 := by
    unfold mCallT
    rw [if_neg (fun n => n hc.1), CN_eq h, if_pos (by omega)]
  unfold mCall
  rw [hT, if_pos (by decide)]
  exact ⟨rfl, h.thr⟩
end
