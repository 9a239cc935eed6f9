/-! PURE LAW: the operations that only ask -/
section
variable {U V : gV}
theorem RR.f (_ : RR U V) {k i : Nat} (e : U k = V k) : V k i = U k i := (congrFun e i).symm
theorem p_on0 (h : RR U V) {y t : Int} (hc : isTrk y t) : (mOn V y t).1 = U 6 (5 * y + t).toNat ∧ (mOn V y t).2 0 0 = 0 ∧ RR U (mOn V y t).2 := by
  have hT : mOnT V y t = 0 := if_pos hc
  unfold mOn
  rw [hT, if_neg (by decide)]
  exact ⟨h.f h.e6, rfl, h.thr⟩
theorem p_on1 (h : RR U V) {y t : Int} (hc : ¬ isTrk y t) : (mOn V y t).2 0 0 = 1 ∧ RR U (mOn V y t).2 := by
  have hT : mOnT V y t = 1 := if_neg hc
  unfold mOn
  rw [hT, if_pos (by decide)]
  exact ⟨rfl, h.thr⟩
theorem p_at0 (h : RR U V) {y t p : Int} (hc : isTrk y t ∧ 0 ≤ p ∧ p < U 6 (5 * y + t).toNat) : (mAt V y t p).1 = U 7 (6 * (5 * y + t) + p).toNat ∧ (mAt V y t p).2 0 0 = 0 ∧ RR U (mAt V y t p).2 := by
  have hT : mAtT V y t p = 0 := by
    unfold mAtT
    rw [if_neg (fun n => n hc.1), h.f h.e6, if_pos (by omega)]
  unfold mAt
  rw [hT, if_neg (by decide)]
  exact ⟨h.f h.e7, rfl, h.thr⟩
theorem p_at1 (h : RR U V) {y t p : Int} (hc : ¬ isTrk y t) : (mAt V y t p).2 0 0 = 1 ∧ RR U (mAt V y t p).2 := by
  have hT : mAtT V y t p = 1 := if_pos hc
  unfold mAt
  rw [hT, if_pos (by decide)]
  exact ⟨rfl, h.thr⟩
theorem p_at2 (h : RR U V) {y t p : Int} (hc : isTrk y t ∧ ¬ (0 ≤ p ∧ p < U 6 (5 * y + t).toNat)) : (mAt V y t p).2 0 0 = 2 ∧ RR U (mAt V y t p).2 := by
  have hT : mAtT V y t p = 2 := by
    unfold mAtT
    rw [if_neg (fun n => n hc.1), h.f h.e6, if_neg (by omega)]
  unfold mAt
  rw [hT, if_pos (by decide)]
  exact ⟨rfl, h.thr⟩
theorem isWg_U (h : RR U V) {w : Int} : isWg V w ↔ 0 ≤ w ∧ w < U 2 0 := by
  show (0 ≤ w ∧ w ≤ V 2 0 - 1) ↔ _
  rw [show V 2 0 = U 2 0 from h.f h.e2]; omega
theorem isBk_U (h : RR U V) {w : Int} : isBk V w ↔ 0 ≤ w ∧ w < U 17 0 := by
  show (0 ≤ w ∧ w ≤ V 17 0 - 1) ↔ _
  rw [show V 17 0 = U 17 0 from h.f h.e17]; omega
theorem isCl_U (h : RR U V) {w : Int} : isCl V w ↔ 0 ≤ w ∧ w < U 11 0 := by
  show (0 ≤ w ∧ w ≤ V 11 0 - 1) ↔ _
  rw [show V 11 0 = U 11 0 from h.f h.e11]; omega
theorem mAsk0_t (h : RR U V) {p : Prop} [Decidable p] (hp : p) : mAsk0 V p 0 0 = 0 ∧ RR U (mAsk0 V p) := ⟨vS_s.trans (bI_0 (fun n => n hp)), h.thr⟩
theorem mAsk0_f (h : RR U V) {p : Prop} [Decidable p] (hp : ¬ p) : mAsk0 V p 0 0 = 1 ∧ RR U (mAsk0 V p) := ⟨vS_s.trans (bI_1 hp), h.thr⟩
theorem p_where0 (h : RR U V) {x : Int} (hc : 0 ≤ x ∧ x < U 2 0) : mWhere V x = (if U 3 x.toNat = -1 then -1 else 10 * (U 3 x.toNat / 5) + U 3 x.toNat % 5) ∧ mAsk0 V (isWg V x) 0 0 = 0 ∧ RR U (mAsk0 V (isWg V x)) :=
  ⟨by rw [mWhere, if_pos ((isWg_U h).mpr hc), h.r3], mAsk0_t h ((isWg_U h).mpr hc)⟩
theorem p_wg1 (h : RR U V) {x : Int} (hc : ¬ (0 ≤ x ∧ x < U 2 0)) : mAsk0 V (isWg V x) 0 0 = 1 ∧ RR U (mAsk0 V (isWg V x)) := mAsk0_f h (fun n => hc ((isWg_U h).mp n))
theorem p_bk1 (h : RR U V) {x : Int} (hc : ¬ (0 ≤ x ∧ x < U 17 0)) : mAsk0 V (isBk V x) 0 0 = 1 ∧ RR U (mAsk0 V (isBk V x)) := mAsk0_f h (fun n => hc ((isBk_U h).mp n))
theorem p_carried0 (h : RR U V) {x : Int} (hc : 0 ≤ x ∧ x < U 2 0) : mCarried V x = U 4 x.toNat ∧ mAsk0 V (isWg V x) 0 0 = 0 ∧ RR U (mAsk0 V (isWg V x)) :=
  ⟨by rw [mCarried, if_pos ((isWg_U h).mpr hc), h.f h.e4], mAsk0_t h ((isWg_U h).mpr hc)⟩
/-- promised to both alike -/
theorem pr_U (h : RR U V) {w : Int} (hw : 0 ≤ w ∧ w < U 2 0) : (isPr V w ↔ ¬ U 5 w.toNat < 0) ∧ (isPr V w → V 5 w.toNat = U 5 w.toNat) := by
  have g5 := h.r5 w hw.1 hw.2
  have gv := h.v5 w hw.1 hw.2
  have e18 : V 18 (V 5 w.toNat).toNat = U 18 (V 5 w.toNat).toNat := h.f h.e18
  unfold isPr
  rw [e18]
  by_cases hc : V 5 w.toNat < 0 ∨ 4 ≤ U 18 (V 5 w.toNat).toNat
  · rw [if_pos hc] at g5
    omega
  · rw [if_neg hc] at g5
    omega
theorem p_promised0 (h : RR U V) {x : Int} (hc : 0 ≤ x ∧ x < U 2 0) : mPromised V x = (if U 5 x.toNat < 0 then -1 else U 5 x.toNat) ∧ mAsk0 V (isWg V x) 0 0 = 0 ∧ RR U (mAsk0 V (isWg V x)) := by
  refine ⟨?_, mAsk0_t h ((isWg_U h).mpr hc)⟩
  obtain ⟨g1, g2⟩ := pr_U h hc
  rw [mPromised, if_pos ((isWg_U h).mpr hc)]
  by_cases hp : isPr V x
  · rw [if_pos hp, if_neg (g1.mp hp), g2 hp]
  · rw [if_neg hp, if_pos (by omega)]
theorem p_state0 (h : RR U V) {x : Int} (hc : 0 ≤ x ∧ x < U 17 0) : mState V x = U 18 x.toNat ∧ mAsk0 V (isBk V x) 0 0 = 0 ∧ RR U (mAsk0 V (isBk V x)) :=
  ⟨by rw [mState, if_pos ((isBk_U h).mpr hc), h.f h.e18], mAsk0_t h ((isBk_U h).mpr hc)⟩
theorem p_wagons0 (h : RR U V) {x : Int} (hc : 0 ≤ x ∧ x < U 17 0) : mMany V x = U 23 x.toNat ∧ mAsk0 V (isBk V x) 0 0 = 0 ∧ RR U (mAsk0 V (isBk V x)) :=
  ⟨by rw [mMany, if_pos ((isBk_U h).mpr hc), h.f h.e23], mAsk0_t h ((isBk_U h).mpr hc)⟩
theorem p_wof0 (h : RR U V) {x p : Int} (hc : (0 ≤ x ∧ x < U 17 0) ∧ 0 ≤ p ∧ p < U 23 x.toNat) : (mWof V x p).1 = U 24 (30 * x + p).toNat ∧ (mWof V x p).2 0 0 = 0 ∧ RR U (mWof V x p).2 := by
  have hT : mWofT V x p = 0 := by
    unfold mWofT
    rw [h.f h.e23]
    exact if_pos ⟨(isBk_U h).mpr hc.1, by omega⟩
  unfold mWof
  rw [hT, if_neg (by decide)]
  exact ⟨h.f h.e24, rfl, h.thr⟩
theorem p_wof1 (h : RR U V) {x p : Int} (hc : ¬ ((0 ≤ x ∧ x < U 17 0) ∧ 0 ≤ p ∧ p < U 23 x.toNat)) : (mWof V x p).2 0 0 = 1 ∧ RR U (mWof V x p).2 := by
  have hT : mWofT V x p = 1 := by
    unfold mWofT
    rw [h.f h.e23]
    exact if_neg (fun n => hc ⟨(isBk_U h).mp n.1, by omega⟩)
  unfold mWof
  rw [hT, if_pos (by decide)]
  exact ⟨rfl, h.thr⟩
theorem p_lap0 (h : RR U V) {x : Int} (hc : (0 ≤ x ∧ x < U 17 0) ∧ U 18 x.toNat = 1) : (mLap V x).1 = U 22 x.toNat - U 1 0 ∧ (mLap V x).2 0 0 = 0 ∧ RR U (mLap V x).2 := by
  have hT : mLapT V x = 0 := by
    unfold mLapT
    rw [if_neg (fun n => n ((isBk_U h).mpr hc.1)), h.f h.e18, if_pos hc.2]
  unfold mLap
  rw [hT, if_neg (by decide)]
  exact ⟨by show V 22 _ - V 1 0 = _; rw [h.r22 x hc.1.1 hc.1.2 hc.2, h.f h.e1], rfl, h.thr⟩
theorem p_lap1 (h : RR U V) {x : Int} (hc : ¬ (0 ≤ x ∧ x < U 17 0)) : (mLap V x).2 0 0 = 1 ∧ RR U (mLap V x).2 := by
  have hT : mLapT V x = 1 := if_pos (fun n => hc ((isBk_U h).mp n))
  unfold mLap
  rw [hT, if_pos (by decide)]
  exact ⟨rfl, h.thr⟩
theorem p_lap2 (h : RR U V) {x : Int} (hc : (0 ≤ x ∧ x < U 17 0) ∧ ¬ U 18 x.toNat = 1) : (mLap V x).2 0 0 = 2 ∧ RR U (mLap V x).2 := by
  have hT : mLapT V x = 2 := by
    unfold mLapT
    rw [if_neg (fun n => n ((isBk_U h).mpr hc.1)), h.f h.e18, if_neg hc.2]
  unfold mLap
  rw [hT, if_pos (by decide)]
  exact ⟨rfl, h.thr⟩
/-- the call of a customer: the system looks for the first, the reference for the last; there is one at most -/
theorem mCN_none {V : gV} {c : Int} (n : Nat) (hn : ∀ k : Nat, k < n → ¬ (V 15 k = 1 ∧ V 13 k = c)) : mCN V c n = -1 := by
  induction n with
  | zero => rfl
  | succ n ih =>
    rw [mCN, if_neg (show ¬ (V 15 ((n : Nat) : Int).toNat = 1 ∧ V 13 ((n : Nat) : Int).toNat = c) from hn n (by omega)), ih (fun k hk => hn k (by omega))]
theorem uCN_none {U : gV} {c : Int} (n : Nat) (hn : ∀ k : Nat, k < n → ¬ (¬ U 15 k = 0 ∧ U 13 k = c)) : uCN U c n = -1 := by
  induction n with
  | zero => rfl
  | succ n ih =>
    rw [uCN, ih (fun k hk => hn k (by omega)), if_neg (by omega), if_neg (hn n (by omega))]
theorem uCN_some {U : gV} {c : Int} (n k : Nat) (hk : k < n) (h1 : ¬ U 15 k = 0 ∧ U 13 k = c) (hu : ∀ j : Nat, j < n → ¬ U 15 j = 0 ∧ U 13 j = c → j = k) : uCN U c n = k := by
  induction n with
  | zero => omega
  | succ n ih =>
    rw [uCN]
    by_cases e : k = n
    · subst e
      rw [uCN_none k (fun j hj h => by have := hu j (by omega) h; omega), if_neg (by omega), if_pos h1]
    · rw [ih (by omega) (fun j hj => hu j (by omega)), if_pos (by omega)]
theorem mCN_some {V : gV} {c : Int} (n k : Nat) (hk : k < n) (h1 : V 15 k = 1 ∧ V 13 k = c) (hu : ∀ j : Nat, j < n → V 15 j = 1 ∧ V 13 j = c → j = k) : mCN V c n = k := by
  induction n with
  | zero => omega
  | succ n ih =>
    rw [mCN]
    by_cases e : k = n
    · subst e
      rw [if_pos (show V 15 ((k : Nat) : Int).toNat = 1 ∧ V 13 ((k : Nat) : Int).toNat = c from h1)]
    · rw [if_neg (fun h => by have := hu n (by omega) h; omega), ih (by omega) (fun j hj => hu j (by omega))]
theorem CN_eq (h : RR U V) {c : Int} : mCN V c (V 11 0).toNat = uCN U c (U 11 0).toNat := by
  have e11 : V 11 0 = U 11 0 := h.f h.e11
  have e15 : ∀ k, V 15 k = U 15 k := fun k => h.f h.e15
  have e13 : ∀ k, V 13 k = U 13 k := fun k => h.f h.e13
  have g11 := h.s11
  have r15 : ∀ k : Nat, k < (U 11 0).toNat → U 15 k = 0 ∨ U 15 k = 1 := fun k hk => h.i15 (k : Int) (by omega) (by omega)
  rw [e11]
  by_cases hx : ∃ k : Nat, k < (U 11 0).toNat ∧ U 15 k = 1 ∧ U 13 k = c
  · obtain ⟨k, hk, k1, k2⟩ := hx
    have hu : ∀ j : Nat, j < (U 11 0).toNat → U 15 j = 1 → U 13 j = c → j = k := fun j hj j1 j2 => by
      have := h.u1 (j : Int) (k : Int) (by omega) (by omega) j1 (by omega) (by omega) k1 (j2.trans k2.symm)
      omega
    rw [uCN_some _ k hk ⟨by omega, k2⟩ (fun j hj hj2 => hu j hj (by have := r15 j hj; omega) hj2.2), mCN_some _ k hk ⟨(e15 k).trans k1, (e13 k).trans k2⟩ (fun j hj hj2 => hu j hj ((e15 j).symm.trans hj2.1) ((e13 j).symm.trans hj2.2))]
  · rw [uCN_none _ (fun k hk hk2 => hx ⟨k, hk, by have := r15 k hk; omega, hk2.2⟩), mCN_none _ (fun k hk hk2 => hx ⟨k, hk, (e15 k).symm.trans hk2.1, (e13 k).symm.trans hk2.2⟩)]
theorem p_cof0 (h : RR U V) {c : Int} (hc : 0 ≤ c ∧ c ≤ 5) : (mCof V c).1 = uCN U c (U 11 0).toNat ∧ (mCof V c).2 0 0 = 0 ∧ RR U (mCof V c).2 := by
  have hT : mCofT V c = 0 := if_pos hc
  have e := CN_eq h.thr (c := c) (V := vS V 0 0 0)
  unfold mCof
  rw [hT, if_neg (by decide)]
  exact ⟨e, rfl, h.thr⟩
theorem p_cof1 (h : RR U V) {c : Int} (hc : ¬ (0 ≤ c ∧ c ≤ 5)) : (mCof V c).2 0 0 = 1 ∧ RR U (mCof V c).2 := by
  have hT : mCofT V c = 1 := if_neg hc
  unfold mCof
  rw [hT, if_pos (by decide)]
  exact ⟨rfl, h.thr⟩
theorem p_trk0 (h : RR U V) {a b k : Int} (hc : isTk a b k) : (mTrk V a b k).1 = uTrk U (2 * (a + b - 1) + k) ∧ (mTrk V a b k).2 0 0 = 0 ∧ RR U (mTrk V a b k).2 := by
  have hT : mTrkT V a b k = 0 := if_pos hc
  have g9 := h.r9 (2 * (a + b - 1) + k) (by omega) (by omega)
  have gi := h.i9 (2 * (a + b - 1) + k) (by omega) (by omega)
  unfold mTrk
  rw [hT, if_neg (by decide)]
  refine ⟨?_, rfl, h.thr⟩
  show V 9 _ = uTrk U _
  rw [g9, uTrk]
  split
  · rfl
  · split <;> omega
theorem p_trk1 (h : RR U V) {a b k : Int} (hc : ¬ isTk a b k) : (mTrk V a b k).2 0 0 = 1 ∧ RR U (mTrk V a b k).2 := by
  have hT : mTrkT V a b k = 1 := if_neg hc
  unfold mTrk
  rw [hT, if_pos (by decide)]
  exact ⟨rfl, h.thr⟩
/-- trunks that a call has: as many as its list holds -/
theorem mWy_c {V : gV} {c : Int} : mWy V c 6 = (if V 9 0 = c then 1 else 0) + (if V 9 1 = c then 1 else 0) + (if V 9 2 = c then 1 else 0) + (if V 9 3 = c then 1 else 0) + (if V 9 4 = c then 1 else 0) + (if V 9 5 = c then 1 else 0) := by
  show 0 + _ + _ + _ + _ + _ + _ = _
  rw [Int.zero_add]
  rfl
theorem p_way0 (h : RR U V) {c : Int} (hc : (0 ≤ c ∧ c < U 11 0) ∧ ¬ U 15 c.toNat = 0) : (mWay V c).1 = U 31 c.toNat ∧ (mWay V c).2 0 0 = 0 ∧ RR U (mWay V c).2 := by
  have hT : mHangT V c = 0 := by
    unfold mHangT
    rw [if_neg (fun n => n ((isCl_U h).mpr hc.1)), h.f h.e15, if_neg hc.2]
  unfold mWay
  rw [hT, if_neg (by decide)]
  refine ⟨?_, rfl, h.thr⟩
  have g15 : U 15 c.toNat = 1 := by have := h.i15 c hc.1.1 hc.1.2; omega
  have g31 := h.i31 c hc.1.1 hc.1.2
  have v : ∀ k : Int, 0 ≤ k → k < 6 → (V 9 k.toNat = c ↔ U 9 k.toNat = c) := fun k a b => by
    have g := h.r9 k a b
    have g2 := h.c9 k a b
    rw [g]
    split
    · rename_i q
      have := g2 q
      omega
    · exact Iff.rfl
  have oC : ∀ k : Int, 0 ≤ k → k < 6 → U 9 k.toNat = c → ∃ j : Int, 0 ≤ j ∧ j < U 31 c.toNat ∧ U 32 (2 * c + j).toNat = k := fun k a b => h.oC c k hc.1.1 hc.1.2 g15 a b
  have oA : ∀ j : Int, 0 ≤ j → j < U 31 c.toNat → U 9 (U 32 (2 * c + j).toNat).toNat = c := fun j a b => h.oA c j hc.1.1 hc.1.2 g15 a b
  have i32 : ∀ j : Int, 0 ≤ j → j < U 31 c.toNat → 0 ≤ U 32 (2 * c + j).toNat ∧ U 32 (2 * c + j).toNat < 6 := fun j a b => h.i32 c j hc.1.1 hc.1.2 a b
  have oD := h.oD c hc.1.1 hc.1.2 g15
  rw [mWy_c]
  show (if V 9 0 = c then (1 : Int) else 0) + (if V 9 1 = c then 1 else 0) + (if V 9 2 = c then 1 else 0) + (if V 9 3 = c then 1 else 0) + (if V 9 4 = c then 1 else 0) + (if V 9 5 = c then 1 else 0) = _
  have v0 := v 0 (by decide) (by decide); have v1 := v 1 (by decide) (by decide); have v2 := v 2 (by decide) (by decide); have v3 := v 3 (by decide) (by decide); have v4 := v 4 (by decide) (by decide); have v5 := v 5 (by decide) (by decide)
  have q0 := oC 0 (by decide) (by decide); have q1 := oC 1 (by decide) (by decide); have q2 := oC 2 (by decide) (by decide); have q3 := oC 3 (by decide) (by decide); have q4 := oC 4 (by decide) (by decide); have q5 := oC 5 (by decide) (by decide)
  obtain ⟨x0, hx0⟩ : ∃ x : Int, U 32 (2 * c + 0).toNat = x := ⟨_, rfl⟩
  obtain ⟨x1, hx1⟩ : ∃ x : Int, U 32 (2 * c + 1).toNat = x := ⟨_, rfl⟩
  have a0 := oA 0 (by decide); have a1 := oA 1 (by decide)
  have b0 := i32 0 (by decide); have b1 := i32 1 (by decide)
  rw [hx0] at a0 b0
  rw [hx1] at a1 b1
  rw [hx0, hx1] at oD
  have hj : ∀ k : Int, (∃ j : Int, 0 ≤ j ∧ j < U 31 c.toNat ∧ U 32 (2 * c + j).toNat = k) → (0 < U 31 c.toNat ∧ x0 = k) ∨ (1 < U 31 c.toNat ∧ x1 = k) := fun k ⟨j, j0, j1, j2⟩ => by
    rcases (by omega : j = 0 ∨ j = 1) with rfl | rfl
    · exact Or.inl ⟨j1, hx0.symm.trans j2⟩
    · exact Or.inr ⟨j1, hx1.symm.trans j2⟩
  have f : ∀ k : Int, 0 ≤ k → k < 6 → (V 9 k.toNat = c ↔ (0 < U 31 c.toNat ∧ x0 = k) ∨ (1 < U 31 c.toNat ∧ x1 = k)) := fun k k0 k1 => by
    rw [v k k0 k1]
    constructor
    · exact fun e => hj k (oC k k0 k1 e)
    · rintro (⟨e1, e2⟩ | ⟨e1, e2⟩)
      · subst e2; exact a0 e1
      · subst e2; exact a1 e1
  have f0 := f 0 (by decide) (by decide); have f1 := f 1 (by decide) (by decide); have f2 := f 2 (by decide) (by decide); have f3 := f 3 (by decide) (by decide); have f4 := f 4 (by decide) (by decide); have f5 := f 5 (by decide) (by decide)
  simp only [show ((0 : Int)).toNat = 0 from rfl, show ((1 : Int)).toNat = 1 from rfl, show ((2 : Int)).toNat = 2 from rfl, show ((3 : Int)).toNat = 3 from rfl, show ((4 : Int)).toNat = 4 from rfl, show ((5 : Int)).toNat = 5 from rfl] at f0 f1 f2 f3 f4 f5
  simp only [f0, f1, f2, f3, f4, f5]
  rcases (by omega : U 31 c.toNat = 0 ∨ U 31 c.toNat = 1 ∨ U 31 c.toNat = 2) with e | e | e
  · simp only [e]; rfl
  · have := b0 (by omega)
    simp only [e]
    rcases (by omega : x0 = 0 ∨ x0 = 1 ∨ x0 = 2 ∨ x0 = 3 ∨ x0 = 4 ∨ x0 = 5) with rfl | rfl | rfl | rfl | rfl | rfl <;> simp
  · have := b0 (by omega)
    have := b1 (by omega)
    have := oD e
    simp only [e]
    rcases (by omega : x0 = 0 ∨ x0 = 1 ∨ x0 = 2 ∨ x0 = 3 ∨ x0 = 4 ∨ x0 = 5) with rfl | rfl | rfl | rfl | rfl | rfl <;> rcases (by omega : x1 = 0 ∨ x1 = 1 ∨ x1 = 2 ∨ x1 = 3 ∨ x1 = 4 ∨ x1 = 5) with rfl | rfl | rfl | rfl | rfl | rfl <;> first | omega | simp
theorem p_way1 (h : RR U V) {c : Int} (hc : ¬ (0 ≤ c ∧ c < U 11 0)) : (mWay V c).2 0 0 = 1 ∧ RR U (mWay V c).2 := by
  have hT : mHangT V c = 1 := if_pos (fun n => hc ((isCl_U h).mp n))
  unfold mWay
  rw [hT, if_pos (by decide)]
  exact ⟨rfl, h.thr⟩
theorem p_way2 (h : RR U V) {c : Int} (hc : (0 ≤ c ∧ c < U 11 0) ∧ U 15 c.toNat = 0) : (mWay V c).2 0 0 = 2 ∧ RR U (mWay V c).2 := by
  have hT : mHangT V c = 2 := by
    unfold mHangT
    rw [if_neg (fun n => n ((isCl_U h).mpr hc.1)), h.f h.e15, if_pos hc.2]
  unfold mWay
  rw [hT, if_pos (by decide)]
  exact ⟨rfl, h.thr⟩
end
