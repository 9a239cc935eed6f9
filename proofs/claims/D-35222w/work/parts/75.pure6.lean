/-! PURE LAW: resuming, cancelling, hanging up, cutting, time -/
section
variable {U V : gV}
theorem p_res0 (h : RR U V) {x y : Int} (hc : (0 ≤ x ∧ x < U 11 0) ∧ (0 ≤ y ∧ y < U 17 0) ∧ ¬ U 15 x.toNat = 0 ∧ U 16 x.toNat < 0 ∧ U 18 y.toNat = 1 ∧ (U 20 y.toNat = U 13 x.toNat ∧ U 21 y.toNat = U 14 x.toNat)) : (mRes V x y).1 = U 23 y.toNat ∧ (mRes V x y).2 0 0 = 0 ∧ RR (uBec (vS U 16 x.toNat y) y 0) (mRes V x y).2 := by
  obtain ⟨hx, hy, c1, c2, c3, c4⟩ := hc
  obtain ⟨g15, v15, v16, g16⟩ := goes_U h hx c1
  have hT : mResT V x y = 0 := by
    unfold mResT
    rw [if_neg (fun n => n ⟨(isCl_U h).mpr hx, (isBk_U h).mpr hy⟩), if_pos]
    refine ⟨by rw [v15]; decide, by rw [v16]; omega, (h.f h.e18).trans c3, ?_⟩
    unfold isOfP
    rw [h.f h.e20, h.f h.e13, h.f h.e21, h.f h.e14]
    exact c4
  unfold mRes
  rw [hT, if_neg (by decide)]
  refine ⟨h.f h.e23, rfl, ?_⟩
  have h1 : RR (vS U 18 y.toNat 0) (vS (vS V 0 0 0) 18 y.toNat 0) := h.thr.st hy (by omega) (by decide) (fun _ _ _ _ _ => rfl) (fun e => absurd e (by omega)) (fun e => absurd e (by decide))
  have h2 := h1.p16 (c := x) (y := y) hx (by show -1 ≤ y ∧ y < U 17 0; omega) (fun _ => vS_s) (fun _ c9 a b d e => by
    have e2 : U 16 c9.toNat = y := e
    have := h.cA c9 a b d (by omega)
    rw [e2] at this
    omega)
  have e9 : uBec (vS U 16 x.toNat y) y 0 = vS (vS U 16 x.toNat y) 18 y.toNat ((0 : Nat) : Int) := uBec_lt (by decide) (bA_n h hy (by omega))
  rw [e9, vS_comm (k := 16) (k' := 18) (by decide)]
  exact h2
theorem p_res1 (h : RR U V) {x y : Int} (hc : ¬ ((0 ≤ x ∧ x < U 11 0) ∧ (0 ≤ y ∧ y < U 17 0))) : (mRes V x y).2 0 0 = 1 ∧ RR U (mRes V x y).2 := by
  have hT : mResT V x y = 1 := if_pos (fun n => hc ⟨(isCl_U h).mp n.1, (isBk_U h).mp n.2⟩)
  unfold mRes
  rw [hT, if_pos (by decide)]
  exact ⟨rfl, h.thr⟩
theorem p_res2 (h : RR U V) {x y : Int} (hc : ((0 ≤ x ∧ x < U 11 0) ∧ (0 ≤ y ∧ y < U 17 0)) ∧ ¬ (¬ U 15 x.toNat = 0 ∧ U 16 x.toNat < 0 ∧ U 18 y.toNat = 1 ∧ (U 20 y.toNat = U 13 x.toNat ∧ U 21 y.toNat = U 14 x.toNat))) : (mRes V x y).2 0 0 = 2 ∧ RR U (mRes V x y).2 := by
  have hT : mResT V x y = 2 := by
    unfold mResT
    rw [if_neg (fun n => n ⟨(isCl_U h).mpr hc.1.1, (isBk_U h).mpr hc.1.2⟩), if_neg]
    rintro ⟨a, b, c, d⟩
    have a2 : ¬ U 15 x.toNat = 0 := fun e => a ((h.f h.e15).trans e)
    obtain ⟨g15, v15, v16, g16⟩ := goes_U h hc.1.1 a2
    unfold isOfP at d
    rw [h.f h.e20, h.f h.e13, h.f h.e21, h.f h.e14] at d
    refine hc.2 ⟨a2, by rw [v16] at b; omega, (h.f h.e18).symm.trans c, d⟩
  unfold mRes
  rw [hT, if_pos (by decide)]
  exact ⟨rfl, h.thr⟩
theorem p_can0 (h : RR U V) {x y : Int} (hc : (0 ≤ x ∧ x < U 11 0) ∧ (0 ≤ y ∧ y < U 17 0) ∧ ¬ U 15 x.toNat = 0 ∧ U 18 y.toNat = 2 ∧ (U 20 y.toNat = U 13 x.toNat ∧ U 21 y.toNat = U 14 x.toNat)) : (mCan V x y).1 = U 23 y.toNat ∧ (mCan V x y).2 0 0 = 0 ∧ RR (uBec U y 5) (mCan V x y).2 := by
  obtain ⟨hx, hy, c1, c3, c4⟩ := hc
  obtain ⟨g15, v15, v16, g16⟩ := goes_U h hx c1
  have hT : mCanT V x y = 0 := by
    unfold mCanT
    rw [if_neg (fun n => n ⟨(isCl_U h).mpr hx, (isBk_U h).mpr hy⟩), if_pos]
    refine ⟨by rw [v15]; decide, (h.f h.e18).trans c3, ?_⟩
    unfold isOfP
    rw [h.f h.e20, h.f h.e13, h.f h.e21, h.f h.e14]
    exact c4
  unfold mCan
  rw [hT, if_neg (by decide)]
  refine ⟨h.f h.e23, rfl, ?_⟩
  exact h.thr.void hy (by omega) (Or.inr rfl) (fun c9 a b d e => by
      have := h.cA c9 a b d (by omega)
      rw [e] at this
      omega) (fun r k a b d e f g => by
      have := (h.tA r k a b d e f).2
      rw [g] at this
      omega) (fun e => absurd e (by omega))
theorem p_can1 (h : RR U V) {x y : Int} (hc : ¬ ((0 ≤ x ∧ x < U 11 0) ∧ (0 ≤ y ∧ y < U 17 0))) : (mCan V x y).2 0 0 = 1 ∧ RR U (mCan V x y).2 := by
  have hT : mCanT V x y = 1 := if_pos (fun n => hc ⟨(isCl_U h).mp n.1, (isBk_U h).mp n.2⟩)
  unfold mCan
  rw [hT, if_pos (by decide)]
  exact ⟨rfl, h.thr⟩
theorem p_can2 (h : RR U V) {x y : Int} (hc : ((0 ≤ x ∧ x < U 11 0) ∧ (0 ≤ y ∧ y < U 17 0)) ∧ ¬ (¬ U 15 x.toNat = 0 ∧ U 18 y.toNat = 2 ∧ (U 20 y.toNat = U 13 x.toNat ∧ U 21 y.toNat = U 14 x.toNat))) : (mCan V x y).2 0 0 = 2 ∧ RR U (mCan V x y).2 := by
  have hT : mCanT V x y = 2 := by
    unfold mCanT
    rw [if_neg (fun n => n ⟨(isCl_U h).mpr hc.1.1, (isBk_U h).mpr hc.1.2⟩), if_neg]
    rintro ⟨a, c, d⟩
    unfold isOfP at d
    rw [h.f h.e20, h.f h.e13, h.f h.e21, h.f h.e14] at d
    exact hc.2 ⟨fun e => a ((h.f h.e15).trans e), (h.f h.e18).symm.trans c, d⟩
  unfold mCan
  rw [hT, if_pos (by decide)]
  exact ⟨rfl, h.thr⟩
theorem uEnd_15 {c i : Int} : uEnd U c 15 i.toNat = if i.toNat = c.toNat then 0 else U 15 i.toNat := by
  rw [uEnd, uEo_k (by decide), vS_k (by decide), vS_e]
theorem uEnd_16 {c i : Int} : uEnd U c 16 i.toNat = if i.toNat = c.toNat then -1 else U 16 i.toNat := by
  rw [uEnd, uEo_k (by decide), vS_e]
  rfl
theorem mEnd_0 {c : Int} : mEnd (vS V 0 0 0) c 0 0 = 0 := (mEnd_k (k := 0) (i := 0) (by decide) (by decide)).trans rfl
theorem p_hang0 (h : RR U V) {x : Int} (hc : (0 ≤ x ∧ x < U 11 0) ∧ ¬ U 15 x.toNat = 0) : (mHang V x).1 = (uHang U x).1 ∧ (mHang V x).2 0 0 = 0 ∧ RR (uHang U x).2 (mHang V x).2 := by
  obtain ⟨g15, v15, v16, g16⟩ := goes_U h hc.1 hc.2
  have hT : mHangT V x = 0 := by
    unfold mHangT
    rw [if_neg (fun n => n ((isCl_U h).mpr hc.1)), h.f h.e15, if_neg hc.2]
  have h1 : RR (uEnd U x) (mEnd (vS V 0 0 0) x) := h.thr.end hc.1 g15
  have w16 : mEnd (vS V 0 0 0) x 16 x.toNat = U 16 x.toNat := (mEnd_k (by decide) (by decide)).trans v16
  unfold mHang
  rw [hT, if_neg (by decide)]
  unfold mHang2 uHang
  rw [w16]
  by_cases q : U 16 x.toNat < 0
  · rw [if_pos (by omega), if_pos q]
    exact ⟨rfl, mEnd_0 (V := V) (c := x), h1⟩
  · rw [if_neg (by omega), if_neg q]
    have cA := h.cA x hc.1.1 hc.1.2 g15 (by omega)
    refine ⟨?_, ?_, ?_⟩
    · show mEnd (vS V 0 0 0) x 23 _ = U 23 _
      rw [mEnd_k (by decide) (by decide)]
      exact h.f h.e23
    · exact mEnd_0 (V := V) (c := x)
    · show RR (uEnd (uBec U (U 16 x.toNat) 5) x) _
      obtain ⟨b, hbb⟩ : ∃ b : Int, U 16 x.toNat = b := ⟨_, rfl⟩
      rw [hbb] at cA g16 q ⊢
      rw [uBec_uEnd]
      have k18 : ∀ i, uEnd U x 18 i = U 18 i := fun i => uEnd_k (by decide) (by decide) (by decide)
      have k17 : uEnd U x 17 0 = U 17 0 := uEnd_k (by decide) (by decide) (by decide)
      exact h1.void (by rw [k17]; omega) (by rw [k18]; omega) (Or.inr rfl) (fun c9 a b9 d e => by
          have b10 : c9 < U 11 0 := by rw [uEnd_k (by decide) (by decide) (by decide)] at b9; exact b9
          rw [uEnd_15] at d
          rw [uEnd_16] at e
          split at d
          · omega
          · rename_i n
            rw [if_neg n] at e
            exact absurd (h.cD c9 x a b10 d hc.1.1 hc.1.2 g15 (by omega) (by omega)) (by omega)) (fun r k a b9 d e f g => by
          have := (h1.tA r k a b9 d e f).2
          rw [g, k18] at this
          omega) (fun e => absurd e (by rw [k18]; omega))
theorem p_hang1 (h : RR U V) {x : Int} (hc : ¬ (0 ≤ x ∧ x < U 11 0)) : (mHang V x).2 0 0 = 1 ∧ RR U (mHang V x).2 := by
  have hT : mHangT V x = 1 := if_pos (fun n => hc ((isCl_U h).mp n))
  unfold mHang
  rw [hT, if_pos (by decide)]
  exact ⟨rfl, h.thr⟩
theorem p_hang2 (h : RR U V) {x : Int} (hc : (0 ≤ x ∧ x < U 11 0) ∧ U 15 x.toNat = 0) : (mHang V x).2 0 0 = 2 ∧ RR U (mHang V x).2 := by
  have hT : mHangT V x = 2 := by
    unfold mHangT
    rw [if_neg (fun n => n ((isCl_U h).mpr hc.1)), h.f h.e15, if_pos hc.2]
  unfold mHang
  rw [hT, if_pos (by decide)]
  exact ⟨rfl, h.thr⟩
theorem p_cut0 (h : RR U V) {a b k : Int} (hc : isTk a b k ∧ ¬ U 30 (2 * (a + b - 1) + k).toNat = 1) : (mCut V a b k).1 = (uCut U (2 * (a + b - 1) + k)).1 ∧ (mCut V a b k).2 0 0 = 0 ∧ RR (uCut U (2 * (a + b - 1) + k)).2 (mCut V a b k).2 := by
  obtain ⟨t, ht⟩ : ∃ t : Int, 2 * (a + b - 1) + k = t := ⟨_, rfl⟩
  have ht6 : 0 ≤ t ∧ t < 6 := by omega
  have hT : mCutT V a b k = 0 := by
    have g := cut_U h ht6
    unfold mCutT
    rw [if_neg (fun n => n hc.1), ht, if_neg (fun n => by rw [ht] at hc; exact hc.2 (g.1.mp n))]
  unfold mCut
  rw [hT, if_neg (by decide)]
  rw [ht] at hc ⊢
  have g := (cut_U h ht6).2 hc.2
  have i9 := h.i9 t ht6.1 ht6.2
  rw [g]
  unfold uCut
  by_cases q : U 9 t.toNat < 0
  · rw [if_pos q, if_pos (by omega)]
    refine ⟨by show U 9 t.toNat = -1; omega, rfl, h.thr.cut ht6 (by omega)⟩
  · rw [if_neg q, if_neg (by omega)]
    obtain ⟨c, hcc⟩ : ∃ c : Int, U 9 t.toNat = c := ⟨_, rfl⟩
    rw [hcc] at q i9 ⊢
    have hc2 : 0 ≤ c ∧ c < U 11 0 := by omega
    have g15 : U 15 c.toNat = 1 := by have := h.o9 t ht6.1 ht6.2 (by omega); rw [hcc] at this; exact this
    obtain ⟨-, v15, v16, g16⟩ := goes_U h hc2 (by omega)
    have h1 : RR (uEnd U c) (mEnd (vS V 0 0 0) c) := h.thr.end hc2 g15
    have w16 : mEnd (vS V 0 0 0) c 16 c.toNat = U 16 c.toNat := (mEnd_k (by decide) (by decide)).trans v16
    have e9 : uEnd U c 9 t.toNat = -1 := by rw [uEnd_9 h hc2 g15 ht6.1 ht6.2, if_pos hcc]
    unfold mCut2
    rw [w16]
    by_cases q2 : U 16 c.toNat < 0
    · rw [if_pos q2, if_pos (by omega)]
      refine ⟨rfl, ?_, ?_⟩
      · exact mEnd_0 (V := V) (c := c)
      · show RR (uEnd (vS U 30 t.toNat 1) c) _
        rw [uEnd_vS (by decide) (by decide) (by decide) (by decide) (by decide)]
        exact h1.cut ht6 e9
    · rw [if_neg q2, if_neg (by omega)]
      have cA := h.cA c hc2.1 hc2.2 g15 (by omega)
      obtain ⟨b', hbb⟩ : ∃ b : Int, U 16 c.toNat = b := ⟨_, rfl⟩
      rw [hbb] at cA g16 q2 ⊢
      have hb : 0 ≤ b' ∧ b' < U 17 0 := by omega
      have k1 : uEnd U c 1 0 = U 1 0 := uEnd_k (by decide) (by decide) (by decide)
      have k18 : ∀ i, uEnd U c 18 i = U 18 i := fun i => uEnd_k (by decide) (by decide) (by decide)
      have k17 : uEnd U c 17 0 = U 17 0 := uEnd_k (by decide) (by decide) (by decide)
      have m1 : mEnd (vS V 0 0 0) c 1 0 = U 1 0 := (mEnd_k (by decide) (by decide)).trans (h.f h.e1)
      have s1 := h.s1
      refine ⟨rfl, ?_, ?_⟩
      · exact mEnd_0 (V := V) (c := c)
      · rw [m1]
        show RR (uEnd (vS (uBec (vS U 30 t.toNat 1) b' 1) 22 b'.toNat (uBec (vS U 30 t.toNat 1) b' 1 1 0 + 10)) c) (vS (vS (vS (mEnd (vS V 0 0 0) c) 18 b'.toNat 1) 22 b'.toNat (U 1 0 + 10)) 9 t.toNat (-2))
        have e8 : uBec (vS U 30 t.toNat 1) b' 1 = vS (vS U 30 t.toNat 1) 18 b'.toNat ((1 : Nat) : Int) := uBec_lt (by decide) (bA_n h hb (by omega))
        rw [e8]
        have e7 : vS (vS U 30 t.toNat 1) 18 b'.toNat ((1 : Nat) : Int) 1 0 = U 1 0 := rfl
        rw [e7, uEnd_vS (by decide) (by decide) (by decide) (by decide) (by decide), uEnd_vS (by decide) (by decide) (by decide) (by decide) (by decide), uEnd_vS (by decide) (by decide) (by decide) (by decide) (by decide)]
        have h2 := h1.p22 (b := b') (x := U 1 0 + 10) (by omega)
        have h3 := h2.st (b := b') (x := 1) (by show 0 ≤ b' ∧ b' < uEnd U c 17 0; rw [k17]; exact hb) (by show uEnd U c 18 b'.toNat < 4; rw [k18]; omega) (by decide) (fun c9 a b9 d e => by
            have b10 : c9 < U 11 0 := by
              have b11 : c9 < uEnd U c 11 0 := b9
              rw [uEnd_k (by decide) (by decide) (by decide)] at b11; exact b11
            have d2 : uEnd U c 15 c9.toNat = 1 := d
            have e2 : uEnd U c 16 c9.toNat = b' := e
            rw [uEnd_15] at d2
            rw [uEnd_16] at e2
            split at d2
            · omega
            · rename_i n
              rw [if_neg n] at e2
              exact absurd (h.cD c9 c a b10 d2 hc2.1 hc2.2 g15 (by omega) (by omega)) (by omega)) (fun e => absurd (show uEnd U c 18 b'.toNat = 3 from e) (by rw [k18]; omega)) (fun _ => by rw [vS_s, vS_s])
        have h4 := h3.cut ht6 e9
        rw [vS_comm (k := 30) (k' := 18) (by decide), vS_comm (k := 30) (k' := 22) (by decide), vS_comm (k := 18) (k' := 22) (by decide), vS_comm (k := 18) (k' := 22) (by decide)]
        exact h4
theorem p_cut1 (h : RR U V) {a b k : Int} (hc : ¬ isTk a b k) : (mCut V a b k).2 0 0 = 1 ∧ RR U (mCut V a b k).2 := by
  have hT : mCutT V a b k = 1 := if_pos hc
  unfold mCut
  rw [hT, if_pos (by decide)]
  exact ⟨rfl, h.thr⟩
theorem p_cut2 (h : RR U V) {a b k : Int} (hc : isTk a b k ∧ U 30 (2 * (a + b - 1) + k).toNat = 1) : (mCut V a b k).2 0 0 = 2 ∧ RR U (mCut V a b k).2 := by
  have g := cut_U h (t := 2 * (a + b - 1) + k) (by omega)
  have hT : mCutT V a b k = 2 := by
    unfold mCutT
    rw [if_neg (fun n => n hc.1), if_pos (g.1.mpr hc.2)]
  unfold mCut
  rw [hT, if_pos (by decide)]
  exact ⟨rfl, h.thr⟩
theorem p_pa {W : gV} (h : RR U W) (n : Nat) (hn : (n : Int) ≤ U 17 0) : (mPa W n).1 = (uPa U n).1 ∧ (mPa W n).2 0 0 = W 0 0 ∧ RR (uPa U n).2 (mPa W n).2 := by
  induction n with
  | zero => exact ⟨rfl, rfl, h⟩
  | succ n ih =>
    obtain ⟨i1, i2, i3⟩ := ih (by omega)
    have k17 : (uPa U n).2 17 0 = U 17 0 := uPa_k (by decide) (by decide) n
    have hb : 0 ≤ (n : Int) ∧ (n : Int) < (uPa U n).2 17 0 := by rw [k17]; omega
    rw [mPa, uPa]
    have e18 : (mPa W n).2 18 n = (uPa U n).2 18 n := i3.f i3.e18
    have e1 : (mPa W n).2 1 0 = (uPa U n).2 1 0 := i3.f i3.e1
    show (if (mPa W n).2 18 n = 1 ∧ (mPa W n).2 22 n ≤ (mPa W n).2 1 0 then _ else _ : Int × gV).1 = _ ∧ (if (mPa W n).2 18 n = 1 ∧ (mPa W n).2 22 n ≤ (mPa W n).2 1 0 then _ else _ : Int × gV).2 0 0 = _ ∧ RR _ (if (mPa W n).2 18 n = 1 ∧ (mPa W n).2 22 n ≤ (mPa W n).2 1 0 then _ else _ : Int × gV).2
    rw [e18, e1]
    by_cases q : (uPa U n).2 18 n = 1
    · have e22 : (mPa W n).2 22 n = (uPa U n).2 22 n := i3.r22 (n : Int) hb.1 hb.2 q
      rw [e22]
      by_cases q2 : (uPa U n).2 22 n ≤ (uPa U n).2 1 0
      · rw [if_pos ⟨q, q2⟩, if_pos ⟨q, q2⟩]
        refine ⟨by show (mPa W n).1 + 1 = (uPa U n).1 + 1; rw [i1], ?_, ?_⟩
        · exact i2
        · exact i3.void hb (by show (uPa U n).2 18 n < 4; omega) (Or.inr rfl) (fun c9 a b d e => by
            have := i3.cA c9 a b d (by omega)
            rw [e] at this
            have q9 : (uPa U n).2 18 ((n : Int)).toNat = 1 := q
            omega) (fun r k a b d e f g => by
            have := (i3.tA r k a b d e f).2
            rw [g] at this
            have q9 : (uPa U n).2 18 ((n : Int)).toNat = 1 := q
            omega) (fun e => absurd (show (uPa U n).2 18 n = 3 from e) (by omega))
      · rw [if_neg (fun z => q2 z.2), if_neg (fun z => q2 z.2)]
        exact ⟨i1, i2, i3⟩
    · rw [if_neg (fun z => q z.1), if_neg (fun z => q z.1)]
      exact ⟨i1, i2, i3⟩
theorem p_pass0 (h : RR U V) {t : Int} (hc : (1 ≤ t ∧ t ≤ 100) ∧ U 1 0 + t ≤ 10000) : (mPass V t).1 = (uPass U t).1 ∧ (mPass V t).2 0 0 = 0 ∧ RR (uPass U t).2 (mPass V t).2 := by
  have e1 : V 1 0 = U 1 0 := h.f h.e1
  have s1 := h.s1
  have s17 := h.s17
  have hT : mPassT V t = 0 := by
    unfold mPassT
    rw [if_neg (by omega), e1, if_neg (by omega)]
  unfold mPass uPass
  rw [hT, if_neg (by decide), e1, show V 17 0 = U 17 0 from h.f h.e17]
  have h1 : RR (vS U 1 0 (U 1 0 + t)) (vS (vS V 0 0 0) 1 0 (U 1 0 + t)) := h.thr.p1 (by omega)
  have h2 := p_pa h1 (U 17 0).toNat (by show (((U 17 0).toNat : Nat) : Int) ≤ U 17 0; omega)
  exact ⟨h2.1, h2.2.1, h2.2.2⟩
theorem p_pass1 (h : RR U V) {t : Int} (hc : ¬ (1 ≤ t ∧ t ≤ 100)) : (mPass V t).2 0 0 = 1 ∧ RR U (mPass V t).2 := by
  have hT : mPassT V t = 1 := if_pos hc
  unfold mPass
  rw [hT, if_pos (by decide)]
  exact ⟨rfl, h.thr⟩
theorem p_pass2 (h : RR U V) {t : Int} (hc : (1 ≤ t ∧ t ≤ 100) ∧ 10000 < U 1 0 + t) : (mPass V t).2 0 0 = 2 ∧ RR U (mPass V t).2 := by
  have e1 : V 1 0 = U 1 0 := h.f h.e1
  have hT : mPassT V t = 2 := by
    unfold mPassT
    rw [if_neg (by omega), e1, if_pos (by omega)]
  unfold mPass
  rw [hT, if_pos (by decide)]
  exact ⟨rfl, h.thr⟩
end
