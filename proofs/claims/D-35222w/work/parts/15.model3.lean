/-! THE REFERENCE's methods, walked: the loops over tracks and trains -/
theorem mFi_r {V : gV} (hI : mI V) {g a : Int} (ha : 0 ≤ a ∧ a < 15) {s0 : Int × Int} (h0 : (0 ≤ s0.2 ∧ s0.2 ≤ 6) ∧ -1 ≤ s0.1 ∧ s0.1 < V 2 0) (k : Nat) (hk : (k : Int) ≤ V 6 a.toNat) : (0 ≤ (mFi V g a s0 k).2 ∧ (mFi V g a s0 k).2 ≤ 6) ∧ -1 ≤ (mFi V g a s0 k).1 ∧ (mFi V g a s0 k).1 < V 2 0 := by
  induction k with
  | zero => exact h0
  | succ k ih =>
    have h6 := mI6 hI (j := a) (by omega) (by omega)
    have h7 := mI7 hI (a := a) (k := (k : Int)) (by omega) (by omega) (by omega) (by omega)
    rw [mFi]
    split
    · show (0 ≤ V 6 a.toNat - 1 - (k : Int) ∧ V 6 a.toNat - 1 - (k : Int) ≤ 6) ∧ -1 ≤ V 7 (6 * a + (k : Int)).toNat ∧ V 7 (6 * a + (k : Int)).toNat < V 2 0
      omega
    · exact ih (by omega)
theorem mFo_r {V : gV} (hI : mI V) {y g : Int} (hy : 0 ≤ y ∧ y ≤ 2) (t : Nat) (ht : t ≤ 5) : (0 ≤ (mFo V y g t).2 ∧ (mFo V y g t).2 ≤ 6) ∧ -1 ≤ (mFo V y g t).1 ∧ (mFo V y g t).1 < V 2 0 := by
  induction t with
  | zero =>
    have hs := mIs hI
    show (0 ≤ (6 : Int) ∧ (6 : Int) ≤ 6) ∧ -1 ≤ (-1 : Int) ∧ (-1 : Int) < V 2 0
    omega
  | succ t ih =>
    have h6 := mI6 hI (j := 5 * y + (t : Int)) (by omega) (by omega)
    rw [mFo]
    exact mFi_r hI (by omega) (ih (by omega)) _ (by omega)
theorem mFi_0 {V : gV} {x g a : Int} {s0 : Int × Int} (n : Nat) : mFi (vS V 0 0 x) g a s0 n = mFi V g a s0 n := by
  induction n with
  | zero => rfl
  | succ n ih => rw [mFi, mFi, ih]; rfl
theorem mFo_0 {V : gV} {x y g : Int} (n : Nat) : mFo (vS V 0 0 x) y g n = mFo V y g n := by
  induction n with
  | zero => rfl
  | succ n ih => rw [mFo, mFo, ih, mFi_0]; rfl
theorem mFind_0 {V : gV} {x y g : Int} : mFind (vS V 0 0 x) y g = mFind V y g := by unfold mFind; rw [mFo_0]
theorem mFind_r {V : gV} (hI : mI V) {y g : Int} (hy : 0 ≤ y ∧ y ≤ 2) : -1 ≤ mFind V y g ∧ mFind V y g < V 2 0 := (mFo_r hI hy 5 (by omega)).2
def mAskT (V : gV) (c g : Int) : Int := if ¬ isCl V c then 1 else if ¬ isGr g then 2 else if V 15 c.toNat = 0 then 3 else if V 16 c.toNat = -1 ∧ V 17 0 < 40 ∨ ¬ V 16 c.toNat = -1 ∧ V 19 (V 16 c.toNat).toNat = g then 0 else 3
def mAskV (V : gV) (c g : Int) : gV := vS (vS (vS (vS (vS (vS (vS V 18 (V 17 0).toNat 0) 19 (V 17 0).toNat g) 20 (V 17 0).toNat (V 13 c.toNat)) 21 (V 17 0).toNat (V 14 c.toNat)) 23 (V 17 0).toNat 0) 16 c.toNat (V 17 0)) 17 0 (V 17 0 + 1)
def mAsk2 (V W : gV) (c g : Int) : Int × gV := if mFind V (V 14 c.toNat) g = -1 then (mFind V (V 14 c.toNat) g, W) else if V 16 c.toNat = -1 then (mFind V (V 14 c.toNat) g, mAdds (mAskV W c g) (V 17 0) (mFind V (V 14 c.toNat) g)) else (mFind V (V 14 c.toNat) g, mAdds W (V 16 c.toNat) (mFind V (V 14 c.toNat) g))
def mAsk (V : gV) (c g : Int) : Int × gV := if 0 < mAskT V c g then (0, vS V 0 0 (mAskT V c g)) else mAsk2 V (vS V 0 0 (mAskT V c g)) c g
def mAo (V : gV) (b x : Int) : Nat → Int
  | 0 => 1
  | k + 1 => if ¬ mAo V b x k = 0 ∧ V 3 (V 24 (30 * b + (k : Int)).toNat).toNat = x then 1 else 0
theorem mAo_r (V : gV) (b x : Int) (k : Nat) : mAo V b x k = 0 ∨ mAo V b x k = 1 := by
  cases k with
  | zero => exact Or.inr rfl
  | succ k => rw [mAo]; split <;> omega
def mCd (V : gV) (y t : Int) : Nat → Int
  | 0 => if 0 < V 6 (5 * y + t).toNat then 1 else 0
  | k + 1 => if ¬ mCd V y t k = 0 ∧ ¬ V 5 (V 7 (6 * (5 * y + t) + (k : Int)).toNat).toNat = -1 ∧ V 18 (V 5 (V 7 (6 * (5 * y + t) + (k : Int)).toNat).toNat).toNat = 2 ∧ ¬ mAo V (V 5 (V 7 (6 * (5 * y + t) + (k : Int)).toNat).toNat) (10 * y + t) (V 23 (V 5 (V 7 (6 * (5 * y + t) + (k : Int)).toNat).toNat).toNat).toNat = 0 then 1 else 0
theorem mCd_r (V : gV) (y t : Int) (k : Nat) : mCd V y t k = 0 ∨ mCd V y t k = 1 := by
  cases k with
  | zero => rw [mCd]; split <;> omega
  | succ k => rw [mCd]; split <;> omega
theorem mCd_0 {V : gV} {y t : Int} {k : Nat} (h : mCd V y t k = 0) (n : Nat) : mCd V y t (k + n) = 0 := by
  induction n with
  | zero => exact h
  | succ n ih => rw [← Nat.add_assoc, mCd, if_neg (by omega)]
theorem mCd_b {V : gV} {y t : Int} {k n : Nat} (h : ¬ mCd V y t n = 0) (hk : k < n) : ¬ V 5 (V 7 (6 * (5 * y + t) + (k : Int)).toNat).toNat = -1 ∧ V 18 (V 5 (V 7 (6 * (5 * y + t) + (k : Int)).toNat).toNat).toNat = 2 ∧ ¬ mAo V (V 5 (V 7 (6 * (5 * y + t) + (k : Int)).toNat).toNat) (10 * y + t) (V 23 (V 5 (V 7 (6 * (5 * y + t) + (k : Int)).toNat).toNat).toNat).toNat = 0 := by
  have h1 : ¬ mCd V y t (k + 1) = 0 := fun e => h (by have := mCd_0 e (n - (k + 1)); rwa [show k + 1 + (n - (k + 1)) = n by omega] at this)
  rw [mCd] at h1
  split at h1
  · rename_i h2; exact h2.2
  · exact absurd rfl h1
def mDepT (V : gV) (y t o : Int) : Int := if ¬ (isTrk y t ∧ isYd o ∧ ¬ y = o) then 1 else if mCd V y t (V 6 (5 * y + t).toNat).toNat = 0 then 2 else 0
def mDp1 (U : gV) (a k : Int) : gV := vS (vS (vS (vS U 29 (6 * U 25 0 + k).toNat (U 7 (6 * a + k).toNat)) 3 (U 7 (6 * a + k).toNat).toNat (-1)) 4 (U 7 (6 * a + k).toNat).toNat (U 19 (U 5 (U 7 (6 * a + k).toNat).toNat).toNat)) 18 (U 5 (U 7 (6 * a + k).toNat).toNat).toNat 3
def mDp (W : gV) (a : Int) : Nat → gV
  | 0 => W
  | k + 1 => mDp1 (mDp W a k) a (k : Int)
theorem mDp_k {W : gV} {a : Int} {k i : Nat} (h : k ≠ 29 ∧ k ≠ 3 ∧ k ≠ 4 ∧ k ≠ 18) (n : Nat) : mDp W a n k i = W k i := by
  induction n with
  | zero => rfl
  | succ n ih => rw [mDp, mDp1, vS_k h.2.2.2, vS_k h.2.2.1, vS_k h.2.1, vS_k h.1, ih]
def mDepV (W : gV) (a o : Int) : gV := vS (vS (vS (vS W 28 (W 25 0).toNat (W 6 a.toNat)) 6 a.toNat 0) 26 (W 25 0).toNat o) 25 0 (W 25 0 + 1)
def mDep (V : gV) (y t o : Int) : Int × gV := if 0 < mDepT V y t o then (0, vS V 0 0 (mDepT V y t o)) else
  (mDp (vS V 0 0 (mDepT V y t o)) (5 * y + t) (V 6 (5 * y + t).toNat).toNat 25 0 + 1 - 1, mDepV (mDp (vS V 0 0 (mDepT V y t o)) (5 * y + t) (V 6 (5 * y + t).toNat).toNat) (5 * y + t) o)
theorem mPuts_k {V : gV} {y t w : Int} {k i : Nat} (h : k ≠ 7 ∧ k ≠ 6 ∧ k ≠ 3) : mPuts V y t w k i = V k i := by rw [mPuts, vS_k h.2.2, vS_k h.2.1, vS_k h.1]
theorem mPuts_6 {V : gV} {y t w : Int} : mPuts V y t w 6 (5 * y + t).toNat = V 6 (5 * y + t).toNat + 1 := by rw [mPuts, vS_k (by decide), vS_s]
theorem mPuts_6n {V : gV} {y t w : Int} {i : Nat} (h : i ≠ (5 * y + t).toNat) : mPuts V y t w 6 i = V 6 i := by rw [mPuts, vS_k (by decide), vS_i h, vS_k (by decide)]
theorem mPuts_7n {V : gV} {y t w : Int} {i : Nat} (h : i ≠ (6 * (5 * y + t) + V 6 (5 * y + t).toNat).toNat) : mPuts V y t w 7 i = V 7 i := by rw [mPuts, vS_k (by decide), vS_k (by decide), vS_i h]
def mArrT (V : gV) (r k : Int) : Int := if ¬ (0 ≤ r ∧ r ≤ V 25 0 - 1) then 1 else if ¬ (0 ≤ k ∧ k ≤ 4) then 2 else if ¬ V 27 r.toNat = 0 ∨ 6 < V 6 (5 * V 26 r.toNat + k).toNat + V 28 r.toNat then 3 else 0
def mAr1 (U : gV) (r tk j : Int) : gV := vS (mPuts U (U 26 r.toNat) tk (U 29 (6 * r + j).toNat)) 18 (mPuts U (U 26 r.toNat) tk (U 29 (6 * r + j).toNat) 5 (U 29 (6 * r + j).toNat).toNat).toNat 4
def mAr (W : gV) (r tk : Int) : Nat → gV
  | 0 => W
  | j + 1 => mAr1 (mAr W r tk j) r tk (j : Int)
theorem mAr_k {W : gV} {r tk : Int} {k i : Nat} (h : k ≠ 7 ∧ k ≠ 6 ∧ k ≠ 3 ∧ k ≠ 18) (n : Nat) : mAr W r tk n k i = W k i := by
  induction n with
  | zero => rfl
  | succ n ih => rw [mAr, mAr1, vS_k h.2.2.2, mPuts_k ⟨h.1, h.2.1, h.2.2.1⟩, ih]
theorem mAr_6 {W : gV} {r tk : Int} (n : Nat) : mAr W r tk n 6 (5 * W 26 r.toNat + tk).toNat = W 6 (5 * W 26 r.toNat + tk).toNat + n := by
  induction n with
  | zero => show W 6 _ = W 6 _ + 0; omega
  | succ n ih =>
    have e : mAr W r tk n 26 r.toNat = W 26 r.toNat := mAr_k (by decide) n
    rw [mAr, mAr1, vS_k (by decide), e, mPuts_6, ih]
    omega
def mArr (V : gV) (r k : Int) : Int × gV := if 0 < mArrT V r k then (0, vS V 0 0 (mArrT V r k)) else
  (mAr (vS (vS V 0 0 (mArrT V r k)) 27 r.toNat 1) r k (V 28 r.toNat).toNat 6 (5 * V 26 r.toNat + k).toNat, mAr (vS (vS V 0 0 (mArrT V r k)) 27 r.toNat 1) r k (V 28 r.toNat).toNat)
def mShT (V : gV) (y f t n : Int) : Int := if ¬ (isTrk y f ∧ isTrk y t ∧ ¬ f = t ∧ 1 ≤ n ∧ n ≤ 6) then 1 else if V 6 (5 * y + f).toNat < n ∨ 6 < V 6 (5 * y + t).toNat + n then 2 else 0
def mSh (W : gV) (y f t : Int) : Nat → gV
  | 0 => W
  | k + 1 => mPuts (mSh W y f t k) y t (mSh W y f t k 7 (6 * (5 * y + f) + mSh W y f t k 6 (5 * y + f).toNat + (k : Int)).toNat)
theorem mSh_k {W : gV} {y f t : Int} {k i : Nat} (h : k ≠ 7 ∧ k ≠ 6 ∧ k ≠ 3) (n : Nat) : mSh W y f t n k i = W k i := by
  induction n with
  | zero => rfl
  | succ n ih => rw [mSh, mPuts_k h, ih]
theorem mSh_6 {W : gV} {y f t : Int} (n : Nat) : mSh W y f t n 6 (5 * y + t).toNat = W 6 (5 * y + t).toNat + n := by
  induction n with
  | zero => show W 6 _ = W 6 _ + 0; omega
  | succ n ih => rw [mSh, mPuts_6, ih]; omega
theorem mSh_6n {W : gV} {y f t : Int} {i : Nat} (h : i ≠ (5 * y + t).toNat) (n : Nat) : mSh W y f t n 6 i = W 6 i := by
  induction n with
  | zero => rfl
  | succ n ih => rw [mSh, mPuts_6n h, ih]
/-- the other tracks' places stay -/
theorem mSh_7n {W : gV} {y f t : Int} {i : Nat} (ht : 0 ≤ 5 * y + t) (h0 : 0 ≤ W 6 (5 * y + t).toNat) (n : Nat) (h : ∀ j : Nat, j < n → i ≠ (6 * (5 * y + t) + W 6 (5 * y + t).toNat + j).toNat) : mSh W y f t n 7 i = W 7 i := by
  induction n with
  | zero => rfl
  | succ n ih =>
    rw [mSh, mPuts_7n, ih (fun j hj => h j (by omega))]
    rw [mSh_6]
    have := h n (by omega)
    rwa [show 6 * (5 * y + t) + (W 6 (5 * y + t).toNat + (n : Int)) = 6 * (5 * y + t) + W 6 (5 * y + t).toNat + n by omega]
def mShu (V : gV) (y f t n : Int) : Int × gV := if 0 < mShT V y f t n then (0, vS V 0 0 (mShT V y f t n)) else
  (mSh (vS (vS V 0 0 (mShT V y f t n)) 6 (5 * y + f).toNat (V 6 (5 * y + f).toNat - n)) y f t n.toNat 6 (5 * y + t).toNat, mSh (vS (vS V 0 0 (mShT V y f t n)) 6 (5 * y + f).toNat (V 6 (5 * y + f).toNat - n)) y f t n.toNat)
theorem bI_n2 {x : Int} (h : x = 0 ∨ x = 1) : narrow .boolean (.int (iI x)) = .int (iI x) := by rcases h with rfl | rfl <;> decide
set_option maxHeartbeats 1000000 in
theorem mc_finds (l : Launch) (EV : gEV) (am : Nat) (ad : Nat → Nat) {V : gV} {y : Int} (hy : inR y) {g : Int} (hg : inR g) (hI : mI V) (hy2 : 0 ≤ y ∧ y ≤ 2) (hg2 : 0 ≤ g ∧ g ≤ 3) : MC l yX4_finds cX4_finds 10 (some .int) 2 EV am ad [.int (iI y), .int (iI g)] V (some (.int (iI (mFind V y g)))) (V) := by
  intro M0 hM0
  refine g_body tbX4_finds tkX4_finds (by decide) (by intro v hv; simp only [List.mem_cons, List.not_mem_nil, or_false] at hv; rcases hv with rfl | rfl | rfl <;> rfl) (Nat.le_of_ble_eq_true rfl) (fun z Q X hl hR hQ hE => ?_)
  subst hl
  have hs := mIs hI
  have loop : ∀ (j t : Nat), t + j = 5 → gMd z (cX4_finds, yX4_finds.cls, 10, (some .int), tbX4_finds, yX4_finds.name) EV Q M0 am ad V 9 [some (.ref am), some (.int (iI y)), some (.int (iI g)), some (.int (iI ((mFo V y g t).1))), some (.int (iI ((mFo V y g t).2))), some (.int (iI (t : Int))), none, none, none, none] [] := by
    intro j
    induction j with
    | zero =>
      intro t ht
      have hr := mFo_r hI (y := y) (g := g) (by omega) t (by omega)
      refine gm_run X 2 (pc1 := 12) (ls1 := [_, _, _, _, _, _, _, _, _, _]) (st1 := [_, _]) rfl ?_
      refine gm_br X (pc1 := 112) (st1 := []) rfl (fun b9 => ?_) (fun b9 => ?_)
      · have c12 : 5 ≤ (t : Int) := cLe b9 (by omega) (by omega)
        refine gm_run X 1 (pc1 := 113) (ls1 := [_, _, _, _, _, _, _, _, _, _]) (st1 := [_]) rfl ?_
        have e9 : t = 5 := by omega
        subst e9
        exact gm_ret X hQ rfl rfl rfl rfl
      · have c12 : (t : Int) < 5 := cNe b9 (by omega) (by omega)
        exact absurd c12 (by omega)
    | succ j ih =>
      intro t ht
      have hr := mFo_r hI (y := y) (g := g) (by omega) t (by omega)
      have h6 := mI6 hI (j := 5 * y + (t : Int)) (by omega) (by omega)
      have inner : ∀ (j k : Nat), (k : Int) + j = V 6 (5 * y + (t : Int)).toNat → gMd z (cX4_finds, yX4_finds.cls, 10, (some .int), tbX4_finds, yX4_finds.name) EV Q M0 am ad V 26 [some (.ref am), some (.int (iI y)), some (.int (iI g)), some (.int (iI ((mFi V g (5 * y + (t : Int)) (mFo V y g t) k).1))), some (.int (iI ((mFi V g (5 * y + (t : Int)) (mFo V y g t) k).2))), some (.int (iI (t : Int))), some (.int (iI (5 * y + (t : Int)))), some (.int (iI (k : Int))), none, none] [] := by
        intro j
        induction j with
        | zero =>
          intro k hk
          have hr := mFi_r hI (g := g) (a := 5 * y + (t : Int)) (by omega) (mFo_r hI (y := y) (g := g) (by omega) t (by omega)) k (by omega)
          refine gm_run X 2 (pc1 := 29) (ls1 := [_, _, _, _, _, _, _, _, _, _]) (st1 := [_, _]) rfl ?_
          refine gm_get X rfl fX4_19 (v := .ref (ad 6)) rfl ?_
          refine gm_run X 1 (pc1 := 34) (ls1 := [_, _, _, _, _, _, _, _, _, _]) (st1 := [_, _, _]) rfl ?_
          refine gm_ald X 6 (x := (5 * y + (t : Int))) (v := (V 6 (5 * y + (t : Int)).toNat)) rfl rfl (by decide) (by show (0:Int) ≤ (5 * y + (t : Int)) ∧ (5 * y + (t : Int)) < 15; omega) (rfl) ?_
          have b34 := mI6 hI (j := (5 * y + (t : Int))) (by omega) (by omega)
          refine gm_br X (pc1 := 106) (st1 := []) rfl (fun b9 => ?_) (fun b9 => ?_)
          · have c35 : (V 6 (5 * y + (t : Int)).toNat) ≤ (k : Int) := cLe b9 (by omega) (by omega)
            refine gm_run X 2 (pc1 := 9) (ls1 := [_, _, _, _, _, _, _, _, _, _]) (st1 := []) rfl ?_
            refine gm_eq (ls' := [some (.ref am), some (.int (iI y)), some (.int (iI g)), some (.int (iI ((mFi V g (5 * y + (t : Int)) (mFo V y g t) k).1))), some (.int (iI ((mFi V g (5 * y + (t : Int)) (mFo V y g t) k).2))), some (.int (iI ((t : Int) + 1))), some (.int (iI (5 * y + (t : Int)))), some (.int (iI (k : Int))), none, none]) (st' := []) (by simp only [iI_add, iI_sub, iI_mul, iI_neg]) (by simp only [iI_add, iI_sub, iI_mul, iI_neg]) ?_
            have ek : (V 6 (5 * y + (t : Int)).toNat).toNat = k := by omega
            have e : mFo V y g (t + 1) = (mFi V g (5 * y + (t : Int)) (mFo V y g t) k) := by rw [mFo, ek]
            have h9 := ih (t + 1) (by omega)
            rw [e] at h9
            exact gm_forget [true, true, true, true, true, true, false, false, false, false] rfl h9
          · have c35 : (k : Int) < (V 6 (5 * y + (t : Int)).toNat) := cNe b9 (by omega) (by omega)
            exact absurd c35 (by omega)
        | succ j ih2 =>
          intro k hk
          have hr := mFi_r hI (g := g) (a := 5 * y + (t : Int)) (by omega) (mFo_r hI (y := y) (g := g) (by omega) t (by omega)) k (by omega)
          refine gm_run X 2 (pc1 := 29) (ls1 := [_, _, _, _, _, _, _, _, _, _]) (st1 := [_, _]) rfl ?_
          refine gm_get X rfl fX4_19 (v := .ref (ad 6)) rfl ?_
          refine gm_run X 1 (pc1 := 34) (ls1 := [_, _, _, _, _, _, _, _, _, _]) (st1 := [_, _, _]) rfl ?_
          refine gm_ald X 6 (x := (5 * y + (t : Int))) (v := (V 6 (5 * y + (t : Int)).toNat)) rfl rfl (by decide) (by show (0:Int) ≤ (5 * y + (t : Int)) ∧ (5 * y + (t : Int)) < 15; omega) (rfl) ?_
          have b34 := mI6 hI (j := (5 * y + (t : Int))) (by omega) (by omega)
          refine gm_br X (pc1 := 106) (st1 := []) rfl (fun b9 => ?_) (fun b9 => ?_)
          · have c35 : (V 6 (5 * y + (t : Int)).toNat) ≤ (k : Int) := cLe b9 (by omega) (by omega)
            exact absurd c35 (by omega)
          · have c35 : (k : Int) < (V 6 (5 * y + (t : Int)).toNat) := cNe b9 (by omega) (by omega)
            refine gm_run X 1 (pc1 := 39) (ls1 := [_, _, _, _, _, _, _, _, _, _]) (st1 := [_]) rfl ?_
            refine gm_get X rfl fX4_22 (v := .ref (ad 7)) rfl ?_
            refine gm_run X 5 (pc1 := 50) (ls1 := [_, _, _, _, _, _, _, _, _, _]) (st1 := [_, _]) rfl ?_
            refine gm_eq (ls' := [some (.ref am), some (.int (iI y)), some (.int (iI g)), some (.int (iI ((mFi V g (5 * y + (t : Int)) (mFo V y g t) k).1))), some (.int (iI ((mFi V g (5 * y + (t : Int)) (mFo V y g t) k).2))), some (.int (iI (t : Int))), some (.int (iI (5 * y + (t : Int)))), some (.int (iI (k : Int))), none, none]) (st' := [.int (iI ((6 * (5 * y + (t : Int))) + (k : Int))), .ref (ad 7)]) (by simp only [iI_add, iI_sub, iI_mul, iI_neg]) (by simp only [iI_add, iI_sub, iI_mul, iI_neg]) ?_
            refine gm_ald X 7 (x := ((6 * (5 * y + (t : Int))) + (k : Int))) (v := (V 7 ((6 * (5 * y + (t : Int))) + (k : Int)).toNat)) rfl rfl (by decide) (by show (0:Int) ≤ ((6 * (5 * y + (t : Int))) + (k : Int)) ∧ ((6 * (5 * y + (t : Int))) + (k : Int)) < 90; omega) (rfl) ?_
            have b50 := mI7 hI (a := (5 * y + (t : Int))) (k := (k : Int)) (by omega) (by omega) (by omega) (by omega)
            refine gm_run X 2 (pc1 := 54) (ls1 := [_, _, _, _, _, _, _, _, _, _]) (st1 := [_]) rfl ?_
            refine gm_get X rfl fX4_19 (v := .ref (ad 6)) rfl ?_
            refine gm_run X 1 (pc1 := 59) (ls1 := [_, _, _, _, _, _, _, _, _, _]) (st1 := [_, _]) rfl ?_
            refine gm_ald X 6 (x := (5 * y + (t : Int))) (v := (V 6 (5 * y + (t : Int)).toNat)) rfl rfl (by decide) (by show (0:Int) ≤ (5 * y + (t : Int)) ∧ (5 * y + (t : Int)) < 15; omega) (rfl) ?_
            have b59 := mI6 hI (j := (5 * y + (t : Int))) (by omega) (by omega)
            refine gm_run X 7 (pc1 := 70) (ls1 := [_, _, _, _, _, _, _, _, _, _]) (st1 := [_, _]) rfl ?_
            refine gm_eq (ls' := [some (.ref am), some (.int (iI y)), some (.int (iI g)), some (.int (iI ((mFi V g (5 * y + (t : Int)) (mFo V y g t) k).1))), some (.int (iI ((mFi V g (5 * y + (t : Int)) (mFo V y g t) k).2))), some (.int (iI (t : Int))), some (.int (iI (5 * y + (t : Int)))), some (.int (iI (k : Int))), some (.int (iI (V 7 ((6 * (5 * y + (t : Int))) + (k : Int)).toNat))), some (.int (iI (((V 6 (5 * y + (t : Int)).toNat) - 1) - (k : Int))))]) (st' := [.int (iI (V 7 ((6 * (5 * y + (t : Int))) + (k : Int)).toNat)), .ref am]) (by simp only [iI_add, iI_sub, iI_mul, iI_neg]) (by simp only [iI_add, iI_sub, iI_mul, iI_neg]) ?_
            refine gm_callV X rfl mX4_116 (mc_isPromised z.2.1 EV am ad (w := (V 7 ((6 * (5 * y + (t : Int))) + (k : Int)).toNat)) (by omega) hI (by show 0 ≤ _ ∧ _ < V 2 0; omega)) rfl rfl (Nat.le_of_ble_eq_true rfl) (gFit.of hR (by decide) (by decide) (by decide)) ?_
            refine gm_eq (st' := [.int (iI (bI (isPr V (V 7 ((6 * (5 * y + (t : Int))) + (k : Int)).toNat))))]) rfl rfl ?_
            refine gm_br X (pc1 := 100) (st1 := []) rfl (fun b9 => ?_) (fun b9 => ?_)
            · have c73 : isPr V (V 7 ((6 * (5 * y + (t : Int))) + (k : Int)).toNat) := bI_t b9
              refine gm_run X 2 (pc1 := 26) (ls1 := [_, _, _, _, _, _, _, _, _, _]) (st1 := []) rfl ?_
              refine gm_eq (ls' := [some (.ref am), some (.int (iI y)), some (.int (iI g)), some (.int (iI ((mFi V g (5 * y + (t : Int)) (mFo V y g t) k).1))), some (.int (iI ((mFi V g (5 * y + (t : Int)) (mFo V y g t) k).2))), some (.int (iI (t : Int))), some (.int (iI (5 * y + (t : Int)))), some (.int (iI ((k : Int) + 1))), some (.int (iI (V 7 ((6 * (5 * y + (t : Int))) + (k : Int)).toNat))), some (.int (iI (((V 6 (5 * y + (t : Int)).toNat) - 1) - (k : Int))))]) (st' := []) (by simp only [iI_add, iI_sub, iI_mul, iI_neg]) (by simp only [iI_add, iI_sub, iI_mul, iI_neg]) ?_
              have e : mFi V g (5 * y + (t : Int)) (mFo V y g t) (k + 1) = ((mFi V g (5 * y + (t : Int)) (mFo V y g t) k).1, (mFi V g (5 * y + (t : Int)) (mFo V y g t) k).2) := by rw [mFi]; first | rw [if_pos (by omega)] | rw [if_neg (by omega)]
              have h9 := ih2 (k + 1) (by omega)
              rw [e] at h9
              exact gm_forget [true, true, true, true, true, true, true, true, false, false] rfl h9
            · have c73 : ¬ (isPr V (V 7 ((6 * (5 * y + (t : Int))) + (k : Int)).toNat)) := bI_f b9
              refine gm_run X 3 (pc1 := 80) (ls1 := [_, _, _, _, _, _, _, _, _, _]) (st1 := [_, _, _]) rfl ?_
              refine gm_callV X rfl mX4_145 (mc_fits z.2.1 EV am ad (w := (V 7 ((6 * (5 * y + (t : Int))) + (k : Int)).toNat)) (g := g) (by omega) (by omega) hI (by show 0 ≤ _ ∧ _ < V 2 0; omega) (by omega)) rfl rfl (Nat.le_of_ble_eq_true rfl) (gFit.of hR (by decide) (by decide) (by decide)) ?_
              refine gm_eq (st' := [.int (iI (bI (fitsP V (V 7 ((6 * (5 * y + (t : Int))) + (k : Int)).toNat) g)))]) rfl rfl ?_
              refine gm_br X (pc1 := 100) (st1 := []) rfl (fun b9 => ?_) (fun b9 => ?_)
              · have c83 : ¬ (fitsP V (V 7 ((6 * (5 * y + (t : Int))) + (k : Int)).toNat) g) := bI_f b9
                refine gm_run X 2 (pc1 := 26) (ls1 := [_, _, _, _, _, _, _, _, _, _]) (st1 := []) rfl ?_
                refine gm_eq (ls' := [some (.ref am), some (.int (iI y)), some (.int (iI g)), some (.int (iI ((mFi V g (5 * y + (t : Int)) (mFo V y g t) k).1))), some (.int (iI ((mFi V g (5 * y + (t : Int)) (mFo V y g t) k).2))), some (.int (iI (t : Int))), some (.int (iI (5 * y + (t : Int)))), some (.int (iI ((k : Int) + 1))), some (.int (iI (V 7 ((6 * (5 * y + (t : Int))) + (k : Int)).toNat))), some (.int (iI (((V 6 (5 * y + (t : Int)).toNat) - 1) - (k : Int))))]) (st' := []) (by simp only [iI_add, iI_sub, iI_mul, iI_neg]) (by simp only [iI_add, iI_sub, iI_mul, iI_neg]) ?_
                have e : mFi V g (5 * y + (t : Int)) (mFo V y g t) (k + 1) = ((mFi V g (5 * y + (t : Int)) (mFo V y g t) k).1, (mFi V g (5 * y + (t : Int)) (mFo V y g t) k).2) := by rw [mFi]; first | rw [if_pos (by omega)] | rw [if_neg (by omega)]
                have h9 := ih2 (k + 1) (by omega)
                rw [e] at h9
                exact gm_forget [true, true, true, true, true, true, true, true, false, false] rfl h9
              · have c83 : fitsP V (V 7 ((6 * (5 * y + (t : Int))) + (k : Int)).toNat) g := bI_t b9
                refine gm_run X 2 (pc1 := 90) (ls1 := [_, _, _, _, _, _, _, _, _, _]) (st1 := [_, _]) rfl ?_
                refine gm_br X (pc1 := 100) (st1 := []) rfl (fun b9 => ?_) (fun b9 => ?_)
                · have c90 : ((mFi V g (5 * y + (t : Int)) (mFo V y g t) k).2) ≤ (((V 6 (5 * y + (t : Int)).toNat) - 1) - (k : Int)) := cLe b9 (by omega) (by omega)
                  refine gm_run X 2 (pc1 := 26) (ls1 := [_, _, _, _, _, _, _, _, _, _]) (st1 := []) rfl ?_
                  refine gm_eq (ls' := [some (.ref am), some (.int (iI y)), some (.int (iI g)), some (.int (iI ((mFi V g (5 * y + (t : Int)) (mFo V y g t) k).1))), some (.int (iI ((mFi V g (5 * y + (t : Int)) (mFo V y g t) k).2))), some (.int (iI (t : Int))), some (.int (iI (5 * y + (t : Int)))), some (.int (iI ((k : Int) + 1))), some (.int (iI (V 7 ((6 * (5 * y + (t : Int))) + (k : Int)).toNat))), some (.int (iI (((V 6 (5 * y + (t : Int)).toNat) - 1) - (k : Int))))]) (st' := []) (by simp only [iI_add, iI_sub, iI_mul, iI_neg]) (by simp only [iI_add, iI_sub, iI_mul, iI_neg]) ?_
                  have e : mFi V g (5 * y + (t : Int)) (mFo V y g t) (k + 1) = ((mFi V g (5 * y + (t : Int)) (mFo V y g t) k).1, (mFi V g (5 * y + (t : Int)) (mFo V y g t) k).2) := by rw [mFi]; first | rw [if_pos (by omega)] | rw [if_neg (by omega)]
                  have h9 := ih2 (k + 1) (by omega)
                  rw [e] at h9
                  exact gm_forget [true, true, true, true, true, true, true, true, false, false] rfl h9
                · have c90 : (((V 6 (5 * y + (t : Int)).toNat) - 1) - (k : Int)) < ((mFi V g (5 * y + (t : Int)) (mFo V y g t) k).2) := cNe b9 (by omega) (by omega)
                  refine gm_run X 6 (pc1 := 26) (ls1 := [_, _, _, _, _, _, _, _, _, _]) (st1 := []) rfl ?_
                  refine gm_eq (ls' := [some (.ref am), some (.int (iI y)), some (.int (iI g)), some (.int (iI (V 7 ((6 * (5 * y + (t : Int))) + (k : Int)).toNat))), some (.int (iI (((V 6 (5 * y + (t : Int)).toNat) - 1) - (k : Int)))), some (.int (iI (t : Int))), some (.int (iI (5 * y + (t : Int)))), some (.int (iI ((k : Int) + 1))), some (.int (iI (V 7 ((6 * (5 * y + (t : Int))) + (k : Int)).toNat))), some (.int (iI (((V 6 (5 * y + (t : Int)).toNat) - 1) - (k : Int))))]) (st' := []) (by simp only [iI_add, iI_sub, iI_mul, iI_neg]) (by simp only [iI_add, iI_sub, iI_mul, iI_neg]) ?_
                  have e : mFi V g (5 * y + (t : Int)) (mFo V y g t) (k + 1) = ((V 7 ((6 * (5 * y + (t : Int))) + (k : Int)).toNat), (((V 6 (5 * y + (t : Int)).toNat) - 1) - (k : Int))) := by rw [mFi]; first | rw [if_pos (by omega)] | rw [if_neg (by omega)]
                  have h9 := ih2 (k + 1) (by omega)
                  rw [e] at h9
                  exact gm_forget [true, true, true, true, true, true, true, true, false, false] rfl h9
      refine gm_run X 2 (pc1 := 12) (ls1 := [_, _, _, _, _, _, _, _, _, _]) (st1 := [_, _]) rfl ?_
      refine gm_br X (pc1 := 112) (st1 := []) rfl (fun b9 => ?_) (fun b9 => ?_)
      · have c12 : 5 ≤ (t : Int) := cLe b9 (by omega) (by omega)
        exact absurd c12 (by omega)
      · have c12 : (t : Int) < 5 := cNe b9 (by omega) (by omega)
        refine gm_run X 8 (pc1 := 26) (ls1 := [_, _, _, _, _, _, _, _, _, _]) (st1 := []) rfl ?_
        refine gm_eq (ls' := [some (.ref am), some (.int (iI y)), some (.int (iI g)), some (.int (iI ((mFo V y g t).1))), some (.int (iI ((mFo V y g t).2))), some (.int (iI (t : Int))), some (.int (iI ((5 * y) + (t : Int)))), some (.int (iI 0)), none, none]) (st' := []) (by simp only [iI_add, iI_sub, iI_mul, iI_neg]) (by simp only [iI_add, iI_sub, iI_mul, iI_neg]) ?_
        exact gm_forget [true, true, true, true, true, true, true, true, false, false] rfl (inner (V 6 (5 * y + (t : Int)).toNat).toNat 0 (by omega))
  refine (?_ : gMd z _ EV Q M0 am ad V 0 [some (.ref am), some (.int (iI y)), some (.int (iI g)), none, none, none, none, none, none, none] []) M0 hM0 gFr.rf
  refine gm_run X 6 (pc1 := 9) (ls1 := [_, _, _, _, _, _, _, _, _, _]) (st1 := []) rfl ?_
  exact loop 5 0 (by omega)
set_option maxHeartbeats 1000000 in
theorem mc_ask (l : Launch) (EV : gEV) (am : Nat) (ad : Nat → Nat) {V : gV} {c : Int} (hc : inR c) {g : Int} (hg : inR g) (hI : mI V) (hm : isCl V c → ¬ V 15 c.toNat = 0 → ¬ V 16 c.toNat = -1 → ¬ mFind V (V 14 c.toNat) g = -1 → V 23 (V 16 c.toNat).toNat < 30) : MC l yX4_ask cX4_ask 4 (some .int) 5 EV am ad [.int (iI c), .int (iI g)] V (some (.int (iI (mAsk V c g).1))) ((mAsk V c g).2) := by
  intro M0 hM0
  refine g_body tbX4_ask tkX4_ask (by decide) (by intro v hv; simp only [List.mem_cons, List.not_mem_nil, or_false] at hv; rcases hv with rfl | rfl | rfl <;> rfl) (Nat.le_of_ble_eq_true rfl) (fun z Q X hl hR hQ hE => ?_)
  subst hl
  refine (?_ : gMd z _ EV Q M0 am ad V 0 [some (.ref am), some (.int (iI c)), some (.int (iI g)), none] []) M0 hM0 gFr.rf
  have hs := mIs hI
  refine gm_run X 3 (pc1 := 3) (ls1 := [_, _, _, _]) (st1 := [_, _, _]) rfl ?_
  refine gm_callV X rfl mX4_148 (mc_isCall z.2.1 EV am ad (w := c) (by omega) hI) rfl rfl (Nat.le_of_ble_eq_true rfl) (gFit.of hR (by decide) (by decide) (by decide)) ?_
  refine gm_eq (st' := [.int (iI (bI (isCl V c))), .ref am]) rfl rfl ?_
  refine gm_br X (pc1 := 13) (st1 := [_]) rfl (fun b9 => ?_) (fun b9 => ?_)
  · have c6 : isCl V c := bI_t b9
    refine gm_run X 1 (pc1 := 14) (ls1 := [_, _, _, _]) (st1 := [_, _]) rfl ?_
    refine gm_callS X rfl mX4_103 (fun M => mc_isGrain z.2.1 EV M (g := g) (by omega)) rfl rfl (Nat.le_of_ble_eq_true rfl) (gFit.of hR (by decide) (by decide) (by decide)) ?_
    refine gm_eq (st' := [.int (iI (bI (isGr g))), .ref am]) rfl rfl ?_
    refine gm_br X (pc1 := 24) (st1 := [_]) rfl (fun b9 => ?_) (fun b9 => ?_)
    · have c17 : isGr g := bI_t b9
      refine gm_run X 1 (pc1 := 25) (ls1 := [_, _, _, _]) (st1 := [_, _]) rfl ?_
      refine gm_get X rfl fX4_40 (v := .ref (ad 15)) rfl ?_
      refine gm_run X 1 (pc1 := 29) (ls1 := [_, _, _, _]) (st1 := [_, _, _]) rfl ?_
      refine gm_zald X 15 (x := c) (v := (V 15 c.toNat)) rfl rfl (by decide) (by show (0:Int) ≤ c ∧ c < 60; omega) (rfl) ?_
      have b29 := mI15 hI (j := c) (by omega) (by omega)
      refine gm_br X (pc1 := 37) (st1 := [_]) rfl (fun b9 => ?_) (fun b9 => ?_)
      · have c30 : ¬ (V 15 c.toNat) = 0 := cNq b9 (by omega) (by omega)
        refine gm_run X 1 (pc1 := 38) (ls1 := [_, _, _, _]) (st1 := [_, _]) rfl ?_
        refine gm_put X (v := 0) rfl fX4_80 (by decide) rfl mSet0 ?_
        refine gm_run X 1 (pc1 := 42) (ls1 := [_, _, _, _]) (st1 := [_]) rfl ?_
        refine gm_get X rfl fX4_80 (v := .int (iI 0)) rfl ?_
        refine gm_br X (pc1 := 109) (st1 := []) rfl (fun b9 => ?_) (fun b9 => ?_)
        · have c45 : ¬ (0 : Int) = (0 : Int) := cNq b9 (by omega) (by omega)
          exact absurd c45 (by omega)
        · have c45 : (0 : Int) = (0 : Int) := cEq b9 (by omega) (by omega)
          refine gm_run X 1 (pc1 := 49) (ls1 := [_, _, _, _]) (st1 := [_]) rfl ?_
          refine gm_get X rfl fX4_44 (v := .ref (ad 16)) rfl ?_
          refine gm_run X 1 (pc1 := 53) (ls1 := [_, _, _, _]) (st1 := [_, _]) rfl ?_
          refine gm_ald X 16 (x := c) (v := (V 16 c.toNat)) rfl rfl (by decide) (by show (0:Int) ≤ c ∧ c < 60; omega) (rfl) ?_
          have b53 := mI16 hI (j := c) (by omega) (by omega)
          refine gm_run X 1 (pc1 := 55) (ls1 := [_, _, _, _]) (st1 := [_, _]) rfl ?_
          refine gm_br X (pc1 := 75) (st1 := []) rfl (fun b9 => ?_) (fun b9 => ?_)
          · have c55 : ¬ (V 16 c.toNat) = (-1) := cNq b9 (by omega) (by omega)
            refine gm_run X 1 (pc1 := 76) (ls1 := [_, _, _, _]) (st1 := [_]) rfl ?_
            refine gm_get X rfl fX4_50 (v := .ref (ad 19)) rfl ?_
            refine gm_run X 1 (pc1 := 80) (ls1 := [_, _, _, _]) (st1 := [_, _]) rfl ?_
            refine gm_get X rfl fX4_44 (v := .ref (ad 16)) rfl ?_
            refine gm_run X 1 (pc1 := 84) (ls1 := [_, _, _, _]) (st1 := [_, _, _]) rfl ?_
            refine gm_ald X 16 (x := c) (v := (V 16 c.toNat)) rfl rfl (by decide) (by show (0:Int) ≤ c ∧ c < 60; omega) (rfl) ?_
            have b84 := mI16 hI (j := c) (by omega) (by omega)
            refine gm_ald X 19 (x := (V 16 c.toNat)) (v := (V 19 (V 16 c.toNat).toNat)) rfl rfl (by decide) (by show (0:Int) ≤ (V 16 c.toNat) ∧ (V 16 c.toNat) < 40; omega) (rfl) ?_
            have b85 := mI19 hI (j := (V 16 c.toNat)) (by omega) (by omega)
            refine gm_run X 1 (pc1 := 87) (ls1 := [_, _, _, _]) (st1 := [_, _]) rfl ?_
            refine gm_br X (pc1 := 94) (st1 := []) rfl (fun b9 => ?_) (fun b9 => ?_)
            · have c87 : ¬ (V 19 (V 16 c.toNat).toNat) = g := cNq b9 (by omega) (by omega)
              refine gm_run X 4 (pc1 := 98) (ls1 := [_, _, _, _]) (st1 := [_, _]) rfl ?_
              refine gm_br X (pc1 := 105) (st1 := [_]) rfl (fun b9 => ?_) (fun b9 => ?_)
              · have c98 : (0 : Int) = (0 : Int) := cEq b9 (by omega) (by omega)
                refine gm_run X 1 (pc1 := 106) (ls1 := [_, _, _, _]) (st1 := [_, _]) rfl ?_
                refine gm_put X (v := 3) rfl fX4_80 (by decide) rfl mSet0 ?_
                have hT : mAskT V c g = 3 := by unfold mAskT; (repeat' split) <;> omega
                refine gm_run X 1 (pc1 := 110) (ls1 := [_, _, _, _]) (st1 := [_]) rfl ?_
                refine gm_get X rfl fX4_80 (v := .int (iI 3)) rfl ?_
                refine gm_br X (pc1 := 118) (st1 := []) rfl (fun b9 => ?_) (fun b9 => ?_)
                · have c113 : (3 : Int) ≤ (0 : Int) := cLe b9 (by omega) (by omega)
                  exact absurd c113 (by omega)
                · have c113 : (0 : Int) < (3 : Int) := cNe b9 (by omega) (by omega)
                  refine gm_run X 1 (pc1 := 117) (ls1 := [_, _, _, _]) (st1 := [_]) rfl ?_
                  try simp only [mFind_0] at c132 c227
                  first | (exfalso; omega) | exact absurd c227 c132 | exact absurd c132 c227 | exact gm_ret X hQ rfl rfl (by (try simp only [vS_vS, mFind_0]); unfold mAsk; rw [hT]; (repeat (first | rw [if_pos (by omega)] | rw [if_neg (by omega)])); all_goals (try rfl); all_goals (unfold mAsk2; (repeat (first | rw [if_pos (by omega)] | rw [if_neg (by omega)])); all_goals (try rfl))) (by (try simp only [vS_vS, mFind_0]); unfold mAsk; rw [hT]; (repeat (first | rw [if_pos (by omega)] | rw [if_neg (by omega)])); all_goals (try rfl); all_goals (unfold mAsk2; (repeat (first | rw [if_pos (by omega)] | rw [if_neg (by omega)])); all_goals (try rfl)))
              · have c98 : ¬ (0 : Int) = (0 : Int) := cNq b9 (by omega) (by omega)
                exact absurd c98 (by omega)
            · have c87 : (V 19 (V 16 c.toNat).toNat) = g := cEq b9 (by omega) (by omega)
              refine gm_run X 5 (pc1 := 98) (ls1 := [_, _, _, _]) (st1 := [_, _]) rfl ?_
              refine gm_br X (pc1 := 105) (st1 := [_]) rfl (fun b9 => ?_) (fun b9 => ?_)
              · have c98 : (1 : Int) = (0 : Int) := cEq b9 (by omega) (by omega)
                exact absurd c98 (by omega)
              · have c98 : ¬ (1 : Int) = (0 : Int) := cNq b9 (by omega) (by omega)
                refine gm_run X 2 (pc1 := 106) (ls1 := [_, _, _, _]) (st1 := [_, _]) rfl ?_
                refine gm_put X (v := 0) rfl fX4_80 (by decide) rfl mSet0 ?_
                have hT : mAskT V c g = 0 := by unfold mAskT; (repeat' split) <;> omega
                refine gm_run X 1 (pc1 := 110) (ls1 := [_, _, _, _]) (st1 := [_]) rfl ?_
                refine gm_get X rfl fX4_80 (v := .int (iI 0)) rfl ?_
                refine gm_br X (pc1 := 118) (st1 := []) rfl (fun b9 => ?_) (fun b9 => ?_)
                · have c113 : (0 : Int) ≤ (0 : Int) := cLe b9 (by omega) (by omega)
                  refine gm_run X 2 (pc1 := 120) (ls1 := [_, _, _, _]) (st1 := [_, _]) rfl ?_
                  refine gm_get X rfl fX4_37 (v := .ref (ad 14)) rfl ?_
                  refine gm_run X 1 (pc1 := 124) (ls1 := [_, _, _, _]) (st1 := [_, _, _]) rfl ?_
                  refine gm_ald X 14 (x := c) (v := (V 14 c.toNat)) rfl rfl (by decide) (by show (0:Int) ≤ c ∧ c < 60; omega) (rfl) ?_
                  have b124 := mI14 hI (j := c) (by omega) (by omega)
                  refine gm_run X 1 (pc1 := 126) (ls1 := [_, _, _, _]) (st1 := [_, _, _]) rfl ?_
                  refine gm_callV X rfl mX4_151 (mc_finds z.2.1 EV am ad (y := (V 14 c.toNat)) (g := g) (by omega) (by omega) (mI_0 (mI_0 hI)) (by omega) (by omega)) rfl rfl (Nat.le_of_ble_eq_true rfl) (gFit.of hR (by decide) (by decide) (by decide)) ?_
                  refine gm_eq (st' := [.int (iI (mFind (vS (vS V 0 0 0) 0 0 0) (V 14 c.toNat) g))]) rfl rfl ?_
                  have r126 := mFind_r (V := (vS (vS V 0 0 0) 0 0 0)) (mI_0 (mI_0 hI)) (y := (V 14 c.toNat)) (g := g) (by omega)
                  have q126 : (vS (vS V 0 0 0) 0 0 0) 2 0 = V 2 0 := rfl
                  rw [q126] at r126
                  refine gm_run X 3 (pc1 := 132) (ls1 := [_, _, _, _]) (st1 := [_, _]) rfl ?_
                  refine gm_br X (pc1 := 225) (st1 := []) rfl (fun b9 => ?_) (fun b9 => ?_)
                  · have c132 : (mFind (vS (vS V 0 0 0) 0 0 0) (V 14 c.toNat) g) = (-1) := cEq b9 (by omega) (by omega)
                    refine gm_run X 2 (pc1 := 227) (ls1 := [_, _, _, _]) (st1 := [_, _]) rfl ?_
                    refine gm_br X (pc1 := 241) (st1 := []) rfl (fun b9 => ?_) (fun b9 => ?_)
                    · have c227 : (mFind (vS (vS V 0 0 0) 0 0 0) (V 14 c.toNat) g) = (-1) := cEq b9 (by omega) (by omega)
                      refine gm_run X 1 (pc1 := 242) (ls1 := [_, _, _, _]) (st1 := [_]) rfl ?_
                      try simp only [mFind_0] at c132 c227
                      first | (exfalso; omega) | exact absurd c227 c132 | exact absurd c132 c227 | exact gm_ret X hQ rfl rfl (by (try simp only [vS_vS, mFind_0]); unfold mAsk; rw [hT]; (repeat (first | rw [if_pos (by omega)] | rw [if_neg (by omega)])); all_goals (try rfl); all_goals (unfold mAsk2; (repeat (first | rw [if_pos (by omega)] | rw [if_neg (by omega)])); all_goals (try rfl))) (by (try simp only [vS_vS, mFind_0]); unfold mAsk; rw [hT]; (repeat (first | rw [if_pos (by omega)] | rw [if_neg (by omega)])); all_goals (try rfl); all_goals (unfold mAsk2; (repeat (first | rw [if_pos (by omega)] | rw [if_neg (by omega)])); all_goals (try rfl)))
                    · have c227 : ¬ (mFind (vS (vS V 0 0 0) 0 0 0) (V 14 c.toNat) g) = (-1) := cNq b9 (by omega) (by omega)
                      exact absurd c132 c227
                  · have c132 : ¬ (mFind (vS (vS V 0 0 0) 0 0 0) (V 14 c.toNat) g) = (-1) := cNq b9 (by omega) (by omega)
                    refine gm_run X 1 (pc1 := 136) (ls1 := [_, _, _, _]) (st1 := [_]) rfl ?_
                    refine gm_get X rfl fX4_44 (v := .ref (ad 16)) rfl ?_
                    refine gm_run X 1 (pc1 := 140) (ls1 := [_, _, _, _]) (st1 := [_, _]) rfl ?_
                    refine gm_ald X 16 (x := c) (v := (V 16 c.toNat)) rfl rfl (by decide) (by show (0:Int) ≤ c ∧ c < 60; omega) (rfl) ?_
                    have b140 := mI16 hI (j := c) (by omega) (by omega)
                    refine gm_run X 1 (pc1 := 142) (ls1 := [_, _, _, _]) (st1 := [_, _]) rfl ?_
                    refine gm_br X (pc1 := 225) (st1 := []) rfl (fun b9 => ?_) (fun b9 => ?_)
                    · have c142 : ¬ (V 16 c.toNat) = (-1) := cNq b9 (by omega) (by omega)
                      refine gm_run X 2 (pc1 := 227) (ls1 := [_, _, _, _]) (st1 := [_, _]) rfl ?_
                      refine gm_br X (pc1 := 241) (st1 := []) rfl (fun b9 => ?_) (fun b9 => ?_)
                      · have c227 : (mFind (vS (vS V 0 0 0) 0 0 0) (V 14 c.toNat) g) = (-1) := cEq b9 (by omega) (by omega)
                        refine gm_run X 1 (pc1 := 242) (ls1 := [_, _, _, _]) (st1 := [_]) rfl ?_
                        try simp only [mFind_0] at c132 c227
                        first | (exfalso; omega) | exact absurd c227 c132 | exact absurd c132 c227 | exact gm_ret X hQ rfl rfl (by (try simp only [vS_vS, mFind_0]); unfold mAsk; rw [hT]; (repeat (first | rw [if_pos (by omega)] | rw [if_neg (by omega)])); all_goals (try rfl); all_goals (unfold mAsk2; (repeat (first | rw [if_pos (by omega)] | rw [if_neg (by omega)])); all_goals (try rfl))) (by (try simp only [vS_vS, mFind_0]); unfold mAsk; rw [hT]; (repeat (first | rw [if_pos (by omega)] | rw [if_neg (by omega)])); all_goals (try rfl); all_goals (unfold mAsk2; (repeat (first | rw [if_pos (by omega)] | rw [if_neg (by omega)])); all_goals (try rfl)))
                      · have c227 : ¬ (mFind (vS (vS V 0 0 0) 0 0 0) (V 14 c.toNat) g) = (-1) := cNq b9 (by omega) (by omega)
                        refine gm_run X 2 (pc1 := 232) (ls1 := [_, _, _, _]) (st1 := [_, _]) rfl ?_
                        refine gm_get X rfl fX4_44 (v := .ref (ad 16)) rfl ?_
                        refine gm_run X 1 (pc1 := 236) (ls1 := [_, _, _, _]) (st1 := [_, _, _]) rfl ?_
                        refine gm_ald X 16 (x := c) (v := (V 16 c.toNat)) rfl rfl (by decide) (by show (0:Int) ≤ c ∧ c < 60; omega) (rfl) ?_
                        have b236 := mI16 hI (j := c) (by omega) (by omega)
                        refine gm_run X 1 (pc1 := 238) (ls1 := [_, _, _, _]) (st1 := [_, _, _]) rfl ?_
                        have h23 := hm (by omega) (by omega) c142 (by rw [mFind_0, mFind_0] at c132; exact c132)
                        have b23 := mI23 hI (j := V 16 c.toNat) (by omega) (by omega)
                        refine gm_callV X rfl mX4_154 (mc_adds z.2.1 EV am ad (V := (vS (vS V 0 0 0) 0 0 0)) (b := (V 16 c.toNat)) (w := (mFind (vS (vS V 0 0 0) 0 0 0) (V 14 c.toNat) g)) (by omega) (by omega) (by omega) (by omega) (by show 0 ≤ V 23 _ ∧ V 23 _ < 30; omega)) rfl rfl (Nat.le_of_ble_eq_true rfl) (gFit.of hR (by decide) (by decide) (by decide)) ?_
                        refine gm_eq (st' := []) rfl rfl ?_
                        refine gm_run X 1 (pc1 := 242) (ls1 := [_, _, _, _]) (st1 := [_]) rfl ?_
                        try simp only [mFind_0] at c132 c227
                        first | (exfalso; omega) | exact absurd c227 c132 | exact absurd c132 c227 | exact gm_ret X hQ rfl rfl (by (try simp only [vS_vS, mFind_0]); unfold mAsk; rw [hT]; (repeat (first | rw [if_pos (by omega)] | rw [if_neg (by omega)])); all_goals (try rfl); all_goals (unfold mAsk2; (repeat (first | rw [if_pos (by omega)] | rw [if_neg (by omega)])); all_goals (try rfl))) (by (try simp only [vS_vS, mFind_0]); unfold mAsk; rw [hT]; (repeat (first | rw [if_pos (by omega)] | rw [if_neg (by omega)])); all_goals (try rfl); all_goals (unfold mAsk2; (repeat (first | rw [if_pos (by omega)] | rw [if_neg (by omega)])); all_goals (try rfl)))
                    · have c142 : (V 16 c.toNat) = (-1) := cEq b9 (by omega) (by omega)
                      refine gm_run X 1 (pc1 := 146) (ls1 := [_, _, _, _]) (st1 := [_]) rfl ?_
                      refine gm_get X rfl fX4_47 (v := .ref (ad 18)) rfl ?_
                      refine gm_run X 1 (pc1 := 150) (ls1 := [_, _, _, _]) (st1 := [_, _]) rfl ?_
                      refine gm_get X rfl fX4_122 (v := .int (iI (V 17 0))) rfl ?_
                      refine gm_run X 1 (pc1 := 154) (ls1 := [_, _, _, _]) (st1 := [_, _, _]) rfl ?_
                      refine gm_ast X 18 (x := (V 17 0)) (v := 0) rfl rfl (by decide) (by show (0:Int) ≤ (V 17 0) ∧ (V 17 0) < 40; omega) ?_
                      refine gm_run X 1 (pc1 := 156) (ls1 := [_, _, _, _]) (st1 := [_]) rfl ?_
                      refine gm_get X rfl fX4_50 (v := .ref (ad 19)) rfl ?_
                      refine gm_run X 1 (pc1 := 160) (ls1 := [_, _, _, _]) (st1 := [_, _]) rfl ?_
                      refine gm_get X rfl fX4_122 (v := .int (iI (V 17 0))) rfl ?_
                      refine gm_run X 1 (pc1 := 164) (ls1 := [_, _, _, _]) (st1 := [_, _, _]) rfl ?_
                      refine gm_ast X 19 (x := (V 17 0)) (v := g) rfl rfl (by decide) (by show (0:Int) ≤ (V 17 0) ∧ (V 17 0) < 40; omega) ?_
                      refine gm_run X 1 (pc1 := 166) (ls1 := [_, _, _, _]) (st1 := [_]) rfl ?_
                      refine gm_get X rfl fX4_53 (v := .ref (ad 20)) rfl ?_
                      refine gm_run X 1 (pc1 := 170) (ls1 := [_, _, _, _]) (st1 := [_, _]) rfl ?_
                      refine gm_get X rfl fX4_122 (v := .int (iI (V 17 0))) rfl ?_
                      refine gm_run X 1 (pc1 := 174) (ls1 := [_, _, _, _]) (st1 := [_, _, _]) rfl ?_
                      refine gm_get X rfl fX4_34 (v := .ref (ad 13)) rfl ?_
                      refine gm_run X 1 (pc1 := 178) (ls1 := [_, _, _, _]) (st1 := [_, _, _, _]) rfl ?_
                      refine gm_ald X 13 (x := c) (v := (V 13 c.toNat)) rfl rfl (by decide) (by show (0:Int) ≤ c ∧ c < 60; omega) (rfl) ?_
                      have b178 := mI13 hI (j := c) (by omega) (by omega)
                      refine gm_ast X 20 (x := (V 17 0)) (v := (V 13 c.toNat)) rfl rfl (by decide) (by show (0:Int) ≤ (V 17 0) ∧ (V 17 0) < 40; omega) ?_
                      refine gm_run X 1 (pc1 := 181) (ls1 := [_, _, _, _]) (st1 := [_]) rfl ?_
                      refine gm_get X rfl fX4_56 (v := .ref (ad 21)) rfl ?_
                      refine gm_run X 1 (pc1 := 185) (ls1 := [_, _, _, _]) (st1 := [_, _]) rfl ?_
                      refine gm_get X rfl fX4_122 (v := .int (iI (V 17 0))) rfl ?_
                      refine gm_run X 1 (pc1 := 189) (ls1 := [_, _, _, _]) (st1 := [_, _, _]) rfl ?_
                      refine gm_get X rfl fX4_37 (v := .ref (ad 14)) rfl ?_
                      refine gm_run X 1 (pc1 := 193) (ls1 := [_, _, _, _]) (st1 := [_, _, _, _]) rfl ?_
                      refine gm_ald X 14 (x := c) (v := (V 14 c.toNat)) rfl rfl (by decide) (by show (0:Int) ≤ c ∧ c < 60; omega) (rfl) ?_
                      have b193 := mI14 hI (j := c) (by omega) (by omega)
                      refine gm_ast X 21 (x := (V 17 0)) (v := (V 14 c.toNat)) rfl rfl (by decide) (by show (0:Int) ≤ (V 17 0) ∧ (V 17 0) < 40; omega) ?_
                      refine gm_run X 1 (pc1 := 196) (ls1 := [_, _, _, _]) (st1 := [_]) rfl ?_
                      refine gm_get X rfl fX4_62 (v := .ref (ad 23)) rfl ?_
                      refine gm_run X 1 (pc1 := 200) (ls1 := [_, _, _, _]) (st1 := [_, _]) rfl ?_
                      refine gm_get X rfl fX4_122 (v := .int (iI (V 17 0))) rfl ?_
                      refine gm_run X 1 (pc1 := 204) (ls1 := [_, _, _, _]) (st1 := [_, _, _]) rfl ?_
                      refine gm_ast X 23 (x := (V 17 0)) (v := 0) rfl rfl (by decide) (by show (0:Int) ≤ (V 17 0) ∧ (V 17 0) < 40; omega) ?_
                      refine gm_run X 1 (pc1 := 206) (ls1 := [_, _, _, _]) (st1 := [_]) rfl ?_
                      refine gm_get X rfl fX4_44 (v := .ref (ad 16)) rfl ?_
                      refine gm_run X 2 (pc1 := 211) (ls1 := [_, _, _, _]) (st1 := [_, _, _]) rfl ?_
                      refine gm_get X rfl fX4_122 (v := .int (iI (V 17 0))) rfl ?_
                      refine gm_ast X 16 (x := c) (v := (V 17 0)) rfl rfl (by decide) (by show (0:Int) ≤ c ∧ c < 60; omega) ?_
                      refine gm_run X 2 (pc1 := 217) (ls1 := [_, _, _, _]) (st1 := [_, _]) rfl ?_
                      refine gm_get X rfl fX4_122 (v := .int (iI (V 17 0))) rfl ?_
                      refine gm_run X 2 (pc1 := 222) (ls1 := [_, _, _, _]) (st1 := [_, _]) rfl ?_
                      refine gm_eq (ls' := [some (.ref am), some (.int (iI c)), some (.int (iI g)), some (.int (iI (mFind (vS (vS V 0 0 0) 0 0 0) (V 14 c.toNat) g)))]) (st' := [.int (iI ((V 17 0) + 1)), .ref am]) (by simp only [iI_add, iI_sub, iI_mul, iI_neg]) (by simp only [iI_add, iI_sub, iI_mul, iI_neg]) ?_
                      refine gm_put X (v := ((V 17 0) + 1)) rfl fX4_122 (by decide) rfl mSet17 ?_
                      refine gm_run X 2 (pc1 := 227) (ls1 := [_, _, _, _]) (st1 := [_, _]) rfl ?_
                      refine gm_br X (pc1 := 241) (st1 := []) rfl (fun b9 => ?_) (fun b9 => ?_)
                      · have c227 : (mFind (vS (vS V 0 0 0) 0 0 0) (V 14 c.toNat) g) = (-1) := cEq b9 (by omega) (by omega)
                        refine gm_run X 1 (pc1 := 242) (ls1 := [_, _, _, _]) (st1 := [_]) rfl ?_
                        try simp only [mFind_0] at c132 c227
                        first | (exfalso; omega) | exact absurd c227 c132 | exact absurd c132 c227 | exact gm_ret X hQ rfl rfl (by (try simp only [vS_vS, mFind_0]); unfold mAsk; rw [hT]; (repeat (first | rw [if_pos (by omega)] | rw [if_neg (by omega)])); all_goals (try rfl); all_goals (unfold mAsk2; (repeat (first | rw [if_pos (by omega)] | rw [if_neg (by omega)])); all_goals (try rfl))) (by (try simp only [vS_vS, mFind_0]); unfold mAsk; rw [hT]; (repeat (first | rw [if_pos (by omega)] | rw [if_neg (by omega)])); all_goals (try rfl); all_goals (unfold mAsk2; (repeat (first | rw [if_pos (by omega)] | rw [if_neg (by omega)])); all_goals (try rfl)))
                      · have c227 : ¬ (mFind (vS (vS V 0 0 0) 0 0 0) (V 14 c.toNat) g) = (-1) := cNq b9 (by omega) (by omega)
                        refine gm_run X 2 (pc1 := 232) (ls1 := [_, _, _, _]) (st1 := [_, _]) rfl ?_
                        refine gm_get X rfl fX4_44 (v := .ref (ad 16)) rfl ?_
                        refine gm_run X 1 (pc1 := 236) (ls1 := [_, _, _, _]) (st1 := [_, _, _]) rfl ?_
                        refine gm_ald X 16 (x := c) (v := (V 17 0)) rfl rfl (by decide) (by show (0:Int) ≤ c ∧ c < 60; omega) (by first | rfl | simp [vS]) ?_
                        refine gm_run X 1 (pc1 := 238) (ls1 := [_, _, _, _]) (st1 := [_, _, _]) rfl ?_
                        have f1 := mFind_0 (V := V) (x := 0) (y := V 14 c.toNat) (g := g)
                        have f2 := mFind_0 (V := vS V 0 0 0) (x := 0) (y := V 14 c.toNat) (g := g)
                        refine gm_callV X rfl mX4_154 (mc_adds z.2.1 EV am ad (V := (vS (vS (vS (vS (vS (vS (vS (vS (vS V 0 0 0) 0 0 0) 18 (V 17 0).toNat 0) 19 (V 17 0).toNat g) 20 (V 17 0).toNat (V 13 c.toNat)) 21 (V 17 0).toNat (V 14 c.toNat)) 23 (V 17 0).toNat 0) 16 c.toNat (V 17 0)) 17 0 ((V 17 0) + 1))) (b := (V 17 0)) (w := (mFind (vS (vS V 0 0 0) 0 0 0) (V 14 c.toNat) g)) (by omega) (by omega) (by omega) (by omega) (by simp [vS])) rfl rfl (Nat.le_of_ble_eq_true rfl) (gFit.of hR (by decide) (by decide) (by decide)) ?_
                        refine gm_eq (st' := []) rfl rfl ?_
                        refine gm_run X 1 (pc1 := 242) (ls1 := [_, _, _, _]) (st1 := [_]) rfl ?_
                        try simp only [mFind_0] at c132 c227
                        first | (exfalso; omega) | exact absurd c227 c132 | exact absurd c132 c227 | exact gm_ret X hQ rfl rfl (by (try simp only [vS_vS, mFind_0]); unfold mAsk; rw [hT]; (repeat (first | rw [if_pos (by omega)] | rw [if_neg (by omega)])); all_goals (try rfl); all_goals (unfold mAsk2; (repeat (first | rw [if_pos (by omega)] | rw [if_neg (by omega)])); all_goals (try rfl))) (by (try simp only [vS_vS, mFind_0]); unfold mAsk; rw [hT]; (repeat (first | rw [if_pos (by omega)] | rw [if_neg (by omega)])); all_goals (try rfl); all_goals (unfold mAsk2; (repeat (first | rw [if_pos (by omega)] | rw [if_neg (by omega)])); all_goals (try rfl)))
                · have c113 : (0 : Int) < (0 : Int) := cNe b9 (by omega) (by omega)
                  exact absurd c113 (by omega)
          · have c55 : (V 16 c.toNat) = (-1) := cEq b9 (by omega) (by omega)
            refine gm_run X 1 (pc1 := 59) (ls1 := [_, _, _, _]) (st1 := [_]) rfl ?_
            refine gm_get X rfl fX4_122 (v := .int (iI (V 17 0))) rfl ?_
            refine gm_run X 1 (pc1 := 64) (ls1 := [_, _, _, _]) (st1 := [_, _]) rfl ?_
            refine gm_br X (pc1 := 71) (st1 := []) rfl (fun b9 => ?_) (fun b9 => ?_)
            · have c64 : 40 ≤ (V 17 0) := cLe b9 (by omega) (by omega)
              refine gm_run X 5 (pc1 := 98) (ls1 := [_, _, _, _]) (st1 := [_, _]) rfl ?_
              refine gm_br X (pc1 := 105) (st1 := [_]) rfl (fun b9 => ?_) (fun b9 => ?_)
              · have c98 : (0 : Int) = (0 : Int) := cEq b9 (by omega) (by omega)
                refine gm_run X 1 (pc1 := 106) (ls1 := [_, _, _, _]) (st1 := [_, _]) rfl ?_
                refine gm_put X (v := 3) rfl fX4_80 (by decide) rfl mSet0 ?_
                have hT : mAskT V c g = 3 := by unfold mAskT; (repeat' split) <;> omega
                refine gm_run X 1 (pc1 := 110) (ls1 := [_, _, _, _]) (st1 := [_]) rfl ?_
                refine gm_get X rfl fX4_80 (v := .int (iI 3)) rfl ?_
                refine gm_br X (pc1 := 118) (st1 := []) rfl (fun b9 => ?_) (fun b9 => ?_)
                · have c113 : (3 : Int) ≤ (0 : Int) := cLe b9 (by omega) (by omega)
                  exact absurd c113 (by omega)
                · have c113 : (0 : Int) < (3 : Int) := cNe b9 (by omega) (by omega)
                  refine gm_run X 1 (pc1 := 117) (ls1 := [_, _, _, _]) (st1 := [_]) rfl ?_
                  try simp only [mFind_0] at c132 c227
                  first | (exfalso; omega) | exact absurd c227 c132 | exact absurd c132 c227 | exact gm_ret X hQ rfl rfl (by (try simp only [vS_vS, mFind_0]); unfold mAsk; rw [hT]; (repeat (first | rw [if_pos (by omega)] | rw [if_neg (by omega)])); all_goals (try rfl); all_goals (unfold mAsk2; (repeat (first | rw [if_pos (by omega)] | rw [if_neg (by omega)])); all_goals (try rfl))) (by (try simp only [vS_vS, mFind_0]); unfold mAsk; rw [hT]; (repeat (first | rw [if_pos (by omega)] | rw [if_neg (by omega)])); all_goals (try rfl); all_goals (unfold mAsk2; (repeat (first | rw [if_pos (by omega)] | rw [if_neg (by omega)])); all_goals (try rfl)))
              · have c98 : ¬ (0 : Int) = (0 : Int) := cNq b9 (by omega) (by omega)
                exact absurd c98 (by omega)
            · have c64 : (V 17 0) < 40 := cNe b9 (by omega) (by omega)
              refine gm_run X 5 (pc1 := 98) (ls1 := [_, _, _, _]) (st1 := [_, _]) rfl ?_
              refine gm_br X (pc1 := 105) (st1 := [_]) rfl (fun b9 => ?_) (fun b9 => ?_)
              · have c98 : (1 : Int) = (0 : Int) := cEq b9 (by omega) (by omega)
                exact absurd c98 (by omega)
              · have c98 : ¬ (1 : Int) = (0 : Int) := cNq b9 (by omega) (by omega)
                refine gm_run X 2 (pc1 := 106) (ls1 := [_, _, _, _]) (st1 := [_, _]) rfl ?_
                refine gm_put X (v := 0) rfl fX4_80 (by decide) rfl mSet0 ?_
                have hT : mAskT V c g = 0 := by unfold mAskT; (repeat' split) <;> omega
                refine gm_run X 1 (pc1 := 110) (ls1 := [_, _, _, _]) (st1 := [_]) rfl ?_
                refine gm_get X rfl fX4_80 (v := .int (iI 0)) rfl ?_
                refine gm_br X (pc1 := 118) (st1 := []) rfl (fun b9 => ?_) (fun b9 => ?_)
                · have c113 : (0 : Int) ≤ (0 : Int) := cLe b9 (by omega) (by omega)
                  refine gm_run X 2 (pc1 := 120) (ls1 := [_, _, _, _]) (st1 := [_, _]) rfl ?_
                  refine gm_get X rfl fX4_37 (v := .ref (ad 14)) rfl ?_
                  refine gm_run X 1 (pc1 := 124) (ls1 := [_, _, _, _]) (st1 := [_, _, _]) rfl ?_
                  refine gm_ald X 14 (x := c) (v := (V 14 c.toNat)) rfl rfl (by decide) (by show (0:Int) ≤ c ∧ c < 60; omega) (rfl) ?_
                  have b124 := mI14 hI (j := c) (by omega) (by omega)
                  refine gm_run X 1 (pc1 := 126) (ls1 := [_, _, _, _]) (st1 := [_, _, _]) rfl ?_
                  refine gm_callV X rfl mX4_151 (mc_finds z.2.1 EV am ad (y := (V 14 c.toNat)) (g := g) (by omega) (by omega) (mI_0 (mI_0 hI)) (by omega) (by omega)) rfl rfl (Nat.le_of_ble_eq_true rfl) (gFit.of hR (by decide) (by decide) (by decide)) ?_
                  refine gm_eq (st' := [.int (iI (mFind (vS (vS V 0 0 0) 0 0 0) (V 14 c.toNat) g))]) rfl rfl ?_
                  have r126 := mFind_r (V := (vS (vS V 0 0 0) 0 0 0)) (mI_0 (mI_0 hI)) (y := (V 14 c.toNat)) (g := g) (by omega)
                  have q126 : (vS (vS V 0 0 0) 0 0 0) 2 0 = V 2 0 := rfl
                  rw [q126] at r126
                  refine gm_run X 3 (pc1 := 132) (ls1 := [_, _, _, _]) (st1 := [_, _]) rfl ?_
                  refine gm_br X (pc1 := 225) (st1 := []) rfl (fun b9 => ?_) (fun b9 => ?_)
                  · have c132 : (mFind (vS (vS V 0 0 0) 0 0 0) (V 14 c.toNat) g) = (-1) := cEq b9 (by omega) (by omega)
                    refine gm_run X 2 (pc1 := 227) (ls1 := [_, _, _, _]) (st1 := [_, _]) rfl ?_
                    refine gm_br X (pc1 := 241) (st1 := []) rfl (fun b9 => ?_) (fun b9 => ?_)
                    · have c227 : (mFind (vS (vS V 0 0 0) 0 0 0) (V 14 c.toNat) g) = (-1) := cEq b9 (by omega) (by omega)
                      refine gm_run X 1 (pc1 := 242) (ls1 := [_, _, _, _]) (st1 := [_]) rfl ?_
                      try simp only [mFind_0] at c132 c227
                      first | (exfalso; omega) | exact absurd c227 c132 | exact absurd c132 c227 | exact gm_ret X hQ rfl rfl (by (try simp only [vS_vS, mFind_0]); unfold mAsk; rw [hT]; (repeat (first | rw [if_pos (by omega)] | rw [if_neg (by omega)])); all_goals (try rfl); all_goals (unfold mAsk2; (repeat (first | rw [if_pos (by omega)] | rw [if_neg (by omega)])); all_goals (try rfl))) (by (try simp only [vS_vS, mFind_0]); unfold mAsk; rw [hT]; (repeat (first | rw [if_pos (by omega)] | rw [if_neg (by omega)])); all_goals (try rfl); all_goals (unfold mAsk2; (repeat (first | rw [if_pos (by omega)] | rw [if_neg (by omega)])); all_goals (try rfl)))
                    · have c227 : ¬ (mFind (vS (vS V 0 0 0) 0 0 0) (V 14 c.toNat) g) = (-1) := cNq b9 (by omega) (by omega)
                      exact absurd c132 c227
                  · have c132 : ¬ (mFind (vS (vS V 0 0 0) 0 0 0) (V 14 c.toNat) g) = (-1) := cNq b9 (by omega) (by omega)
                    refine gm_run X 1 (pc1 := 136) (ls1 := [_, _, _, _]) (st1 := [_]) rfl ?_
                    refine gm_get X rfl fX4_44 (v := .ref (ad 16)) rfl ?_
                    refine gm_run X 1 (pc1 := 140) (ls1 := [_, _, _, _]) (st1 := [_, _]) rfl ?_
                    refine gm_ald X 16 (x := c) (v := (V 16 c.toNat)) rfl rfl (by decide) (by show (0:Int) ≤ c ∧ c < 60; omega) (rfl) ?_
                    have b140 := mI16 hI (j := c) (by omega) (by omega)
                    refine gm_run X 1 (pc1 := 142) (ls1 := [_, _, _, _]) (st1 := [_, _]) rfl ?_
                    refine gm_br X (pc1 := 225) (st1 := []) rfl (fun b9 => ?_) (fun b9 => ?_)
                    · have c142 : ¬ (V 16 c.toNat) = (-1) := cNq b9 (by omega) (by omega)
                      refine gm_run X 2 (pc1 := 227) (ls1 := [_, _, _, _]) (st1 := [_, _]) rfl ?_
                      refine gm_br X (pc1 := 241) (st1 := []) rfl (fun b9 => ?_) (fun b9 => ?_)
                      · have c227 : (mFind (vS (vS V 0 0 0) 0 0 0) (V 14 c.toNat) g) = (-1) := cEq b9 (by omega) (by omega)
                        refine gm_run X 1 (pc1 := 242) (ls1 := [_, _, _, _]) (st1 := [_]) rfl ?_
                        try simp only [mFind_0] at c132 c227
                        first | (exfalso; omega) | exact absurd c227 c132 | exact absurd c132 c227 | exact gm_ret X hQ rfl rfl (by (try simp only [vS_vS, mFind_0]); unfold mAsk; rw [hT]; (repeat (first | rw [if_pos (by omega)] | rw [if_neg (by omega)])); all_goals (try rfl); all_goals (unfold mAsk2; (repeat (first | rw [if_pos (by omega)] | rw [if_neg (by omega)])); all_goals (try rfl))) (by (try simp only [vS_vS, mFind_0]); unfold mAsk; rw [hT]; (repeat (first | rw [if_pos (by omega)] | rw [if_neg (by omega)])); all_goals (try rfl); all_goals (unfold mAsk2; (repeat (first | rw [if_pos (by omega)] | rw [if_neg (by omega)])); all_goals (try rfl)))
                      · have c227 : ¬ (mFind (vS (vS V 0 0 0) 0 0 0) (V 14 c.toNat) g) = (-1) := cNq b9 (by omega) (by omega)
                        refine gm_run X 2 (pc1 := 232) (ls1 := [_, _, _, _]) (st1 := [_, _]) rfl ?_
                        refine gm_get X rfl fX4_44 (v := .ref (ad 16)) rfl ?_
                        refine gm_run X 1 (pc1 := 236) (ls1 := [_, _, _, _]) (st1 := [_, _, _]) rfl ?_
                        refine gm_ald X 16 (x := c) (v := (V 16 c.toNat)) rfl rfl (by decide) (by show (0:Int) ≤ c ∧ c < 60; omega) (rfl) ?_
                        have b236 := mI16 hI (j := c) (by omega) (by omega)
                        refine gm_run X 1 (pc1 := 238) (ls1 := [_, _, _, _]) (st1 := [_, _, _]) rfl ?_
                        have h23 := hm (by omega) (by omega) c142 (by rw [mFind_0, mFind_0] at c132; exact c132)
                        have b23 := mI23 hI (j := V 16 c.toNat) (by omega) (by omega)
                        refine gm_callV X rfl mX4_154 (mc_adds z.2.1 EV am ad (V := (vS (vS V 0 0 0) 0 0 0)) (b := (V 16 c.toNat)) (w := (mFind (vS (vS V 0 0 0) 0 0 0) (V 14 c.toNat) g)) (by omega) (by omega) (by omega) (by omega) (by show 0 ≤ V 23 _ ∧ V 23 _ < 30; omega)) rfl rfl (Nat.le_of_ble_eq_true rfl) (gFit.of hR (by decide) (by decide) (by decide)) ?_
                        refine gm_eq (st' := []) rfl rfl ?_
                        refine gm_run X 1 (pc1 := 242) (ls1 := [_, _, _, _]) (st1 := [_]) rfl ?_
                        try simp only [mFind_0] at c132 c227
                        first | (exfalso; omega) | exact absurd c227 c132 | exact absurd c132 c227 | exact gm_ret X hQ rfl rfl (by (try simp only [vS_vS, mFind_0]); unfold mAsk; rw [hT]; (repeat (first | rw [if_pos (by omega)] | rw [if_neg (by omega)])); all_goals (try rfl); all_goals (unfold mAsk2; (repeat (first | rw [if_pos (by omega)] | rw [if_neg (by omega)])); all_goals (try rfl))) (by (try simp only [vS_vS, mFind_0]); unfold mAsk; rw [hT]; (repeat (first | rw [if_pos (by omega)] | rw [if_neg (by omega)])); all_goals (try rfl); all_goals (unfold mAsk2; (repeat (first | rw [if_pos (by omega)] | rw [if_neg (by omega)])); all_goals (try rfl)))
                    · have c142 : (V 16 c.toNat) = (-1) := cEq b9 (by omega) (by omega)
                      refine gm_run X 1 (pc1 := 146) (ls1 := [_, _, _, _]) (st1 := [_]) rfl ?_
                      refine gm_get X rfl fX4_47 (v := .ref (ad 18)) rfl ?_
                      refine gm_run X 1 (pc1 := 150) (ls1 := [_, _, _, _]) (st1 := [_, _]) rfl ?_
                      refine gm_get X rfl fX4_122 (v := .int (iI (V 17 0))) rfl ?_
                      refine gm_run X 1 (pc1 := 154) (ls1 := [_, _, _, _]) (st1 := [_, _, _]) rfl ?_
                      refine gm_ast X 18 (x := (V 17 0)) (v := 0) rfl rfl (by decide) (by show (0:Int) ≤ (V 17 0) ∧ (V 17 0) < 40; omega) ?_
                      refine gm_run X 1 (pc1 := 156) (ls1 := [_, _, _, _]) (st1 := [_]) rfl ?_
                      refine gm_get X rfl fX4_50 (v := .ref (ad 19)) rfl ?_
                      refine gm_run X 1 (pc1 := 160) (ls1 := [_, _, _, _]) (st1 := [_, _]) rfl ?_
                      refine gm_get X rfl fX4_122 (v := .int (iI (V 17 0))) rfl ?_
                      refine gm_run X 1 (pc1 := 164) (ls1 := [_, _, _, _]) (st1 := [_, _, _]) rfl ?_
                      refine gm_ast X 19 (x := (V 17 0)) (v := g) rfl rfl (by decide) (by show (0:Int) ≤ (V 17 0) ∧ (V 17 0) < 40; omega) ?_
                      refine gm_run X 1 (pc1 := 166) (ls1 := [_, _, _, _]) (st1 := [_]) rfl ?_
                      refine gm_get X rfl fX4_53 (v := .ref (ad 20)) rfl ?_
                      refine gm_run X 1 (pc1 := 170) (ls1 := [_, _, _, _]) (st1 := [_, _]) rfl ?_
                      refine gm_get X rfl fX4_122 (v := .int (iI (V 17 0))) rfl ?_
                      refine gm_run X 1 (pc1 := 174) (ls1 := [_, _, _, _]) (st1 := [_, _, _]) rfl ?_
                      refine gm_get X rfl fX4_34 (v := .ref (ad 13)) rfl ?_
                      refine gm_run X 1 (pc1 := 178) (ls1 := [_, _, _, _]) (st1 := [_, _, _, _]) rfl ?_
                      refine gm_ald X 13 (x := c) (v := (V 13 c.toNat)) rfl rfl (by decide) (by show (0:Int) ≤ c ∧ c < 60; omega) (rfl) ?_
                      have b178 := mI13 hI (j := c) (by omega) (by omega)
                      refine gm_ast X 20 (x := (V 17 0)) (v := (V 13 c.toNat)) rfl rfl (by decide) (by show (0:Int) ≤ (V 17 0) ∧ (V 17 0) < 40; omega) ?_
                      refine gm_run X 1 (pc1 := 181) (ls1 := [_, _, _, _]) (st1 := [_]) rfl ?_
                      refine gm_get X rfl fX4_56 (v := .ref (ad 21)) rfl ?_
                      refine gm_run X 1 (pc1 := 185) (ls1 := [_, _, _, _]) (st1 := [_, _]) rfl ?_
                      refine gm_get X rfl fX4_122 (v := .int (iI (V 17 0))) rfl ?_
                      refine gm_run X 1 (pc1 := 189) (ls1 := [_, _, _, _]) (st1 := [_, _, _]) rfl ?_
                      refine gm_get X rfl fX4_37 (v := .ref (ad 14)) rfl ?_
                      refine gm_run X 1 (pc1 := 193) (ls1 := [_, _, _, _]) (st1 := [_, _, _, _]) rfl ?_
                      refine gm_ald X 14 (x := c) (v := (V 14 c.toNat)) rfl rfl (by decide) (by show (0:Int) ≤ c ∧ c < 60; omega) (rfl) ?_
                      have b193 := mI14 hI (j := c) (by omega) (by omega)
                      refine gm_ast X 21 (x := (V 17 0)) (v := (V 14 c.toNat)) rfl rfl (by decide) (by show (0:Int) ≤ (V 17 0) ∧ (V 17 0) < 40; omega) ?_
                      refine gm_run X 1 (pc1 := 196) (ls1 := [_, _, _, _]) (st1 := [_]) rfl ?_
                      refine gm_get X rfl fX4_62 (v := .ref (ad 23)) rfl ?_
                      refine gm_run X 1 (pc1 := 200) (ls1 := [_, _, _, _]) (st1 := [_, _]) rfl ?_
                      refine gm_get X rfl fX4_122 (v := .int (iI (V 17 0))) rfl ?_
                      refine gm_run X 1 (pc1 := 204) (ls1 := [_, _, _, _]) (st1 := [_, _, _]) rfl ?_
                      refine gm_ast X 23 (x := (V 17 0)) (v := 0) rfl rfl (by decide) (by show (0:Int) ≤ (V 17 0) ∧ (V 17 0) < 40; omega) ?_
                      refine gm_run X 1 (pc1 := 206) (ls1 := [_, _, _, _]) (st1 := [_]) rfl ?_
                      refine gm_get X rfl fX4_44 (v := .ref (ad 16)) rfl ?_
                      refine gm_run X 2 (pc1 := 211) (ls1 := [_, _, _, _]) (st1 := [_, _, _]) rfl ?_
                      refine gm_get X rfl fX4_122 (v := .int (iI (V 17 0))) rfl ?_
                      refine gm_ast X 16 (x := c) (v := (V 17 0)) rfl rfl (by decide) (by show (0:Int) ≤ c ∧ c < 60; omega) ?_
                      refine gm_run X 2 (pc1 := 217) (ls1 := [_, _, _, _]) (st1 := [_, _]) rfl ?_
                      refine gm_get X rfl fX4_122 (v := .int (iI (V 17 0))) rfl ?_
                      refine gm_run X 2 (pc1 := 222) (ls1 := [_, _, _, _]) (st1 := [_, _]) rfl ?_
                      refine gm_eq (ls' := [some (.ref am), some (.int (iI c)), some (.int (iI g)), some (.int (iI (mFind (vS (vS V 0 0 0) 0 0 0) (V 14 c.toNat) g)))]) (st' := [.int (iI ((V 17 0) + 1)), .ref am]) (by simp only [iI_add, iI_sub, iI_mul, iI_neg]) (by simp only [iI_add, iI_sub, iI_mul, iI_neg]) ?_
                      refine gm_put X (v := ((V 17 0) + 1)) rfl fX4_122 (by decide) rfl mSet17 ?_
                      refine gm_run X 2 (pc1 := 227) (ls1 := [_, _, _, _]) (st1 := [_, _]) rfl ?_
                      refine gm_br X (pc1 := 241) (st1 := []) rfl (fun b9 => ?_) (fun b9 => ?_)
                      · have c227 : (mFind (vS (vS V 0 0 0) 0 0 0) (V 14 c.toNat) g) = (-1) := cEq b9 (by omega) (by omega)
                        refine gm_run X 1 (pc1 := 242) (ls1 := [_, _, _, _]) (st1 := [_]) rfl ?_
                        try simp only [mFind_0] at c132 c227
                        first | (exfalso; omega) | exact absurd c227 c132 | exact absurd c132 c227 | exact gm_ret X hQ rfl rfl (by (try simp only [vS_vS, mFind_0]); unfold mAsk; rw [hT]; (repeat (first | rw [if_pos (by omega)] | rw [if_neg (by omega)])); all_goals (try rfl); all_goals (unfold mAsk2; (repeat (first | rw [if_pos (by omega)] | rw [if_neg (by omega)])); all_goals (try rfl))) (by (try simp only [vS_vS, mFind_0]); unfold mAsk; rw [hT]; (repeat (first | rw [if_pos (by omega)] | rw [if_neg (by omega)])); all_goals (try rfl); all_goals (unfold mAsk2; (repeat (first | rw [if_pos (by omega)] | rw [if_neg (by omega)])); all_goals (try rfl)))
                      · have c227 : ¬ (mFind (vS (vS V 0 0 0) 0 0 0) (V 14 c.toNat) g) = (-1) := cNq b9 (by omega) (by omega)
                        refine gm_run X 2 (pc1 := 232) (ls1 := [_, _, _, _]) (st1 := [_, _]) rfl ?_
                        refine gm_get X rfl fX4_44 (v := .ref (ad 16)) rfl ?_
                        refine gm_run X 1 (pc1 := 236) (ls1 := [_, _, _, _]) (st1 := [_, _, _]) rfl ?_
                        refine gm_ald X 16 (x := c) (v := (V 17 0)) rfl rfl (by decide) (by show (0:Int) ≤ c ∧ c < 60; omega) (by first | rfl | simp [vS]) ?_
                        refine gm_run X 1 (pc1 := 238) (ls1 := [_, _, _, _]) (st1 := [_, _, _]) rfl ?_
                        have f1 := mFind_0 (V := V) (x := 0) (y := V 14 c.toNat) (g := g)
                        have f2 := mFind_0 (V := vS V 0 0 0) (x := 0) (y := V 14 c.toNat) (g := g)
                        refine gm_callV X rfl mX4_154 (mc_adds z.2.1 EV am ad (V := (vS (vS (vS (vS (vS (vS (vS (vS (vS V 0 0 0) 0 0 0) 18 (V 17 0).toNat 0) 19 (V 17 0).toNat g) 20 (V 17 0).toNat (V 13 c.toNat)) 21 (V 17 0).toNat (V 14 c.toNat)) 23 (V 17 0).toNat 0) 16 c.toNat (V 17 0)) 17 0 ((V 17 0) + 1))) (b := (V 17 0)) (w := (mFind (vS (vS V 0 0 0) 0 0 0) (V 14 c.toNat) g)) (by omega) (by omega) (by omega) (by omega) (by simp [vS])) rfl rfl (Nat.le_of_ble_eq_true rfl) (gFit.of hR (by decide) (by decide) (by decide)) ?_
                        refine gm_eq (st' := []) rfl rfl ?_
                        refine gm_run X 1 (pc1 := 242) (ls1 := [_, _, _, _]) (st1 := [_]) rfl ?_
                        try simp only [mFind_0] at c132 c227
                        first | (exfalso; omega) | exact absurd c227 c132 | exact absurd c132 c227 | exact gm_ret X hQ rfl rfl (by (try simp only [vS_vS, mFind_0]); unfold mAsk; rw [hT]; (repeat (first | rw [if_pos (by omega)] | rw [if_neg (by omega)])); all_goals (try rfl); all_goals (unfold mAsk2; (repeat (first | rw [if_pos (by omega)] | rw [if_neg (by omega)])); all_goals (try rfl))) (by (try simp only [vS_vS, mFind_0]); unfold mAsk; rw [hT]; (repeat (first | rw [if_pos (by omega)] | rw [if_neg (by omega)])); all_goals (try rfl); all_goals (unfold mAsk2; (repeat (first | rw [if_pos (by omega)] | rw [if_neg (by omega)])); all_goals (try rfl)))
                · have c113 : (0 : Int) < (0 : Int) := cNe b9 (by omega) (by omega)
                  exact absurd c113 (by omega)
      · have c30 : (V 15 c.toNat) = 0 := cEq b9 (by omega) (by omega)
        refine gm_run X 2 (pc1 := 38) (ls1 := [_, _, _, _]) (st1 := [_, _]) rfl ?_
        refine gm_put X (v := 3) rfl fX4_80 (by decide) rfl mSet0 ?_
        have hT : mAskT V c g = 3 := by unfold mAskT; (repeat' split) <;> omega
        refine gm_run X 1 (pc1 := 42) (ls1 := [_, _, _, _]) (st1 := [_]) rfl ?_
        refine gm_get X rfl fX4_80 (v := .int (iI 3)) rfl ?_
        refine gm_br X (pc1 := 109) (st1 := []) rfl (fun b9 => ?_) (fun b9 => ?_)
        · have c45 : ¬ (3 : Int) = (0 : Int) := cNq b9 (by omega) (by omega)
          refine gm_run X 1 (pc1 := 110) (ls1 := [_, _, _, _]) (st1 := [_]) rfl ?_
          refine gm_get X rfl fX4_80 (v := .int (iI 3)) rfl ?_
          refine gm_br X (pc1 := 118) (st1 := []) rfl (fun b9 => ?_) (fun b9 => ?_)
          · have c113 : (3 : Int) ≤ (0 : Int) := cLe b9 (by omega) (by omega)
            exact absurd c113 (by omega)
          · have c113 : (0 : Int) < (3 : Int) := cNe b9 (by omega) (by omega)
            refine gm_run X 1 (pc1 := 117) (ls1 := [_, _, _, _]) (st1 := [_]) rfl ?_
            try simp only [mFind_0] at c132 c227
            first | (exfalso; omega) | exact absurd c227 c132 | exact absurd c132 c227 | exact gm_ret X hQ rfl rfl (by (try simp only [vS_vS, mFind_0]); unfold mAsk; rw [hT]; (repeat (first | rw [if_pos (by omega)] | rw [if_neg (by omega)])); all_goals (try rfl); all_goals (unfold mAsk2; (repeat (first | rw [if_pos (by omega)] | rw [if_neg (by omega)])); all_goals (try rfl))) (by (try simp only [vS_vS, mFind_0]); unfold mAsk; rw [hT]; (repeat (first | rw [if_pos (by omega)] | rw [if_neg (by omega)])); all_goals (try rfl); all_goals (unfold mAsk2; (repeat (first | rw [if_pos (by omega)] | rw [if_neg (by omega)])); all_goals (try rfl)))
        · have c45 : (3 : Int) = (0 : Int) := cEq b9 (by omega) (by omega)
          exact absurd c45 (by omega)
    · have c17 : ¬ (isGr g) := bI_f b9
      refine gm_run X 2 (pc1 := 38) (ls1 := [_, _, _, _]) (st1 := [_, _]) rfl ?_
      refine gm_put X (v := 2) rfl fX4_80 (by decide) rfl mSet0 ?_
      have hT : mAskT V c g = 2 := by unfold mAskT; (repeat' split) <;> omega
      refine gm_run X 1 (pc1 := 42) (ls1 := [_, _, _, _]) (st1 := [_]) rfl ?_
      refine gm_get X rfl fX4_80 (v := .int (iI 2)) rfl ?_
      refine gm_br X (pc1 := 109) (st1 := []) rfl (fun b9 => ?_) (fun b9 => ?_)
      · have c45 : ¬ (2 : Int) = (0 : Int) := cNq b9 (by omega) (by omega)
        refine gm_run X 1 (pc1 := 110) (ls1 := [_, _, _, _]) (st1 := [_]) rfl ?_
        refine gm_get X rfl fX4_80 (v := .int (iI 2)) rfl ?_
        refine gm_br X (pc1 := 118) (st1 := []) rfl (fun b9 => ?_) (fun b9 => ?_)
        · have c113 : (2 : Int) ≤ (0 : Int) := cLe b9 (by omega) (by omega)
          exact absurd c113 (by omega)
        · have c113 : (0 : Int) < (2 : Int) := cNe b9 (by omega) (by omega)
          refine gm_run X 1 (pc1 := 117) (ls1 := [_, _, _, _]) (st1 := [_]) rfl ?_
          try simp only [mFind_0] at c132 c227
          first | (exfalso; omega) | exact absurd c227 c132 | exact absurd c132 c227 | exact gm_ret X hQ rfl rfl (by (try simp only [vS_vS, mFind_0]); unfold mAsk; rw [hT]; (repeat (first | rw [if_pos (by omega)] | rw [if_neg (by omega)])); all_goals (try rfl); all_goals (unfold mAsk2; (repeat (first | rw [if_pos (by omega)] | rw [if_neg (by omega)])); all_goals (try rfl))) (by (try simp only [vS_vS, mFind_0]); unfold mAsk; rw [hT]; (repeat (first | rw [if_pos (by omega)] | rw [if_neg (by omega)])); all_goals (try rfl); all_goals (unfold mAsk2; (repeat (first | rw [if_pos (by omega)] | rw [if_neg (by omega)])); all_goals (try rfl)))
      · have c45 : (2 : Int) = (0 : Int) := cEq b9 (by omega) (by omega)
        exact absurd c45 (by omega)
  · have c6 : ¬ (isCl V c) := bI_f b9
    refine gm_run X 2 (pc1 := 38) (ls1 := [_, _, _, _]) (st1 := [_, _]) rfl ?_
    refine gm_put X (v := 1) rfl fX4_80 (by decide) rfl mSet0 ?_
    have hT : mAskT V c g = 1 := by unfold mAskT; (repeat' split) <;> omega
    refine gm_run X 1 (pc1 := 42) (ls1 := [_, _, _, _]) (st1 := [_]) rfl ?_
    refine gm_get X rfl fX4_80 (v := .int (iI 1)) rfl ?_
    refine gm_br X (pc1 := 109) (st1 := []) rfl (fun b9 => ?_) (fun b9 => ?_)
    · have c45 : ¬ (1 : Int) = (0 : Int) := cNq b9 (by omega) (by omega)
      refine gm_run X 1 (pc1 := 110) (ls1 := [_, _, _, _]) (st1 := [_]) rfl ?_
      refine gm_get X rfl fX4_80 (v := .int (iI 1)) rfl ?_
      refine gm_br X (pc1 := 118) (st1 := []) rfl (fun b9 => ?_) (fun b9 => ?_)
      · have c113 : (1 : Int) ≤ (0 : Int) := cLe b9 (by omega) (by omega)
        exact absurd c113 (by omega)
      · have c113 : (0 : Int) < (1 : Int) := cNe b9 (by omega) (by omega)
        refine gm_run X 1 (pc1 := 117) (ls1 := [_, _, _, _]) (st1 := [_]) rfl ?_
        try simp only [mFind_0] at c132 c227
        first | (exfalso; omega) | exact absurd c227 c132 | exact absurd c132 c227 | exact gm_ret X hQ rfl rfl (by (try simp only [vS_vS, mFind_0]); unfold mAsk; rw [hT]; (repeat (first | rw [if_pos (by omega)] | rw [if_neg (by omega)])); all_goals (try rfl); all_goals (unfold mAsk2; (repeat (first | rw [if_pos (by omega)] | rw [if_neg (by omega)])); all_goals (try rfl))) (by (try simp only [vS_vS, mFind_0]); unfold mAsk; rw [hT]; (repeat (first | rw [if_pos (by omega)] | rw [if_neg (by omega)])); all_goals (try rfl); all_goals (unfold mAsk2; (repeat (first | rw [if_pos (by omega)] | rw [if_neg (by omega)])); all_goals (try rfl)))
    · have c45 : (1 : Int) = (0 : Int) := cEq b9 (by omega) (by omega)
      exact absurd c45 (by omega)
set_option maxHeartbeats 1000000 in
theorem mc_areOn (l : Launch) (EV : gEV) (am : Nat) (ad : Nat → Nat) {V : gV} {b : Int} (hb : inR b) {x : Int} (hx : inR x) (hI : mI V) (hb2 : 0 ≤ b ∧ b < V 17 0) : MC l yX4_areOn cX4_areOn 5 (some .boolean) 1 EV am ad [.int (iI b), .int (iI x)] V (some (.int (iI (mAo V b x (V 23 b.toNat).toNat)))) (V) := by
  intro M0 hM0
  refine g_body tbX4_areOn tkX4_areOn (by decide) (by intro v hv; simp only [List.mem_cons, List.not_mem_nil, or_false] at hv; rcases hv with rfl | rfl | rfl <;> rfl) (Nat.le_of_ble_eq_true rfl) (fun z Q X hl hR hQ hE => ?_)
  subst hl
  have hs := mIs hI
  have loop : ∀ (j k : Nat), (k : Int) + j = V 23 b.toNat → gMd z (cX4_areOn, yX4_areOn.cls, 5, (some .boolean), tbX4_areOn, yX4_areOn.name) EV Q M0 am ad V 5 [some (.ref am), some (.int (iI b)), some (.int (iI x)), some (.int (iI (mAo V b x k))), some (.int (iI (k : Int)))] [] := by
    intro j
    induction j with
    | zero =>
      intro k hk
      have hr := mAo_r V b x k
      have b23 := mI23 hI (j := b) (by omega) (by omega)
      refine gm_run X 2 (pc1 := 8) (ls1 := [_, _, _, _, _]) (st1 := [_, _]) rfl ?_
      refine gm_get X rfl fX4_62 (v := .ref (ad 23)) rfl ?_
      refine gm_run X 1 (pc1 := 12) (ls1 := [_, _, _, _, _]) (st1 := [_, _, _]) rfl ?_
      refine gm_ald X 23 (x := b) (v := (V 23 b.toNat)) rfl rfl (by decide) (by show (0:Int) ≤ b ∧ b < 40; omega) (rfl) ?_
      have b12 := mI23 hI (j := b) (by omega) (by omega)
      refine gm_br X (pc1 := 53) (st1 := []) rfl (fun b9 => ?_) (fun b9 => ?_)
      · have c13 : (V 23 b.toNat) ≤ (k : Int) := cLe b9 (by omega) (by omega)
        refine gm_run X 1 (pc1 := 54) (ls1 := [_, _, _, _, _]) (st1 := [_]) rfl ?_
        have e9 : k = (V 23 b.toNat).toNat := by omega
        subst e9
        exact gm_zret X hQ rfl rfl (bI_n2 (mAo_r V b x _)) rfl rfl
      · have c13 : (k : Int) < (V 23 b.toNat) := cNe b9 (by omega) (by omega)
        exact absurd c13 (by omega)
    | succ j ih =>
      intro k hk
      have hr := mAo_r V b x k
      have b23 := mI23 hI (j := b) (by omega) (by omega)
      refine gm_run X 2 (pc1 := 8) (ls1 := [_, _, _, _, _]) (st1 := [_, _]) rfl ?_
      refine gm_get X rfl fX4_62 (v := .ref (ad 23)) rfl ?_
      refine gm_run X 1 (pc1 := 12) (ls1 := [_, _, _, _, _]) (st1 := [_, _, _]) rfl ?_
      refine gm_ald X 23 (x := b) (v := (V 23 b.toNat)) rfl rfl (by decide) (by show (0:Int) ≤ b ∧ b < 40; omega) (rfl) ?_
      have b12 := mI23 hI (j := b) (by omega) (by omega)
      refine gm_br X (pc1 := 53) (st1 := []) rfl (fun b9 => ?_) (fun b9 => ?_)
      · have c13 : (V 23 b.toNat) ≤ (k : Int) := cLe b9 (by omega) (by omega)
        exact absurd c13 (by omega)
      · have c13 : (k : Int) < (V 23 b.toNat) := cNe b9 (by omega) (by omega)
        refine gm_run X 1 (pc1 := 17) (ls1 := [_, _, _, _, _]) (st1 := [_]) rfl ?_
        refine gm_br X (pc1 := 45) (st1 := []) rfl (fun b9 => ?_) (fun b9 => ?_)
        · have c17 : (mAo V b x k) = 0 := cEq b9 (by omega) (by omega)
          refine gm_run X 4 (pc1 := 5) (ls1 := [_, _, _, _, _]) (st1 := []) rfl ?_
          refine gm_eq (ls' := [some (.ref am), some (.int (iI b)), some (.int (iI x)), some (.int (iI 0)), some (.int (iI ((k : Int) + 1)))]) (st' := []) (by simp only [iI_add, iI_sub, iI_mul, iI_neg]) (by simp only [iI_add, iI_sub, iI_mul, iI_neg]) ?_
          have e : mAo V b x (k + 1) = 0 := by rw [mAo]; first | rw [if_pos (by omega)] | rw [if_neg (by omega)]
          have h9 := ih (k + 1) (by omega)
          rw [e] at h9
          exact h9
        · have c17 : ¬ (mAo V b x k) = 0 := cNq b9 (by omega) (by omega)
          refine gm_run X 1 (pc1 := 21) (ls1 := [_, _, _, _, _]) (st1 := [_]) rfl ?_
          refine gm_get X rfl fX4_7 (v := .ref (ad 3)) rfl ?_
          refine gm_run X 1 (pc1 := 25) (ls1 := [_, _, _, _, _]) (st1 := [_, _]) rfl ?_
          refine gm_get X rfl fX4_65 (v := .ref (ad 24)) rfl ?_
          refine gm_run X 5 (pc1 := 35) (ls1 := [_, _, _, _, _]) (st1 := [_, _, _]) rfl ?_
          refine gm_eq (ls' := [some (.ref am), some (.int (iI b)), some (.int (iI x)), some (.int (iI (mAo V b x k))), some (.int (iI (k : Int)))]) (st' := [.int (iI ((30 * b) + (k : Int))), .ref (ad 24), .ref (ad 3)]) (by simp only [iI_add, iI_sub, iI_mul, iI_neg]) (by simp only [iI_add, iI_sub, iI_mul, iI_neg]) ?_
          refine gm_ald X 24 (x := ((30 * b) + (k : Int))) (v := (V 24 ((30 * b) + (k : Int)).toNat)) rfl rfl (by decide) (by show (0:Int) ≤ ((30 * b) + (k : Int)) ∧ ((30 * b) + (k : Int)) < 1200; omega) (rfl) ?_
          have b35 := mI24 hI (a := b) (k := (k : Int)) (by omega) (by omega) (by omega) (by omega)
          refine gm_ald X 3 (x := (V 24 ((30 * b) + (k : Int)).toNat)) (v := (V 3 (V 24 ((30 * b) + (k : Int)).toNat).toNat)) rfl rfl (by decide) (by show (0:Int) ≤ (V 24 ((30 * b) + (k : Int)).toNat) ∧ (V 24 ((30 * b) + (k : Int)).toNat) < 30; omega) (rfl) ?_
          have b36 := mI3 hI (j := (V 24 ((30 * b) + (k : Int)).toNat)) (by omega) (by omega)
          refine gm_run X 1 (pc1 := 38) (ls1 := [_, _, _, _, _]) (st1 := [_, _]) rfl ?_
          refine gm_br X (pc1 := 45) (st1 := []) rfl (fun b9 => ?_) (fun b9 => ?_)
          · have c38 : ¬ (V 3 (V 24 ((30 * b) + (k : Int)).toNat).toNat) = x := cNq b9 (by omega) (by omega)
            refine gm_run X 4 (pc1 := 5) (ls1 := [_, _, _, _, _]) (st1 := []) rfl ?_
            refine gm_eq (ls' := [some (.ref am), some (.int (iI b)), some (.int (iI x)), some (.int (iI 0)), some (.int (iI ((k : Int) + 1)))]) (st' := []) (by simp only [iI_add, iI_sub, iI_mul, iI_neg]) (by simp only [iI_add, iI_sub, iI_mul, iI_neg]) ?_
            have e : mAo V b x (k + 1) = 0 := by rw [mAo]; first | rw [if_pos (by omega)] | rw [if_neg (by omega)]
            have h9 := ih (k + 1) (by omega)
            rw [e] at h9
            exact h9
          · have c38 : (V 3 (V 24 ((30 * b) + (k : Int)).toNat).toNat) = x := cEq b9 (by omega) (by omega)
            refine gm_run X 5 (pc1 := 5) (ls1 := [_, _, _, _, _]) (st1 := []) rfl ?_
            refine gm_eq (ls' := [some (.ref am), some (.int (iI b)), some (.int (iI x)), some (.int (iI 1)), some (.int (iI ((k : Int) + 1)))]) (st' := []) (by simp only [iI_add, iI_sub, iI_mul, iI_neg]) (by simp only [iI_add, iI_sub, iI_mul, iI_neg]) ?_
            have e : mAo V b x (k + 1) = 1 := by rw [mAo]; first | rw [if_pos (by omega)] | rw [if_neg (by omega)]
            have h9 := ih (k + 1) (by omega)
            rw [e] at h9
            exact h9
  refine (?_ : gMd z _ EV Q M0 am ad V 0 [some (.ref am), some (.int (iI b)), some (.int (iI x)), none, none] []) M0 hM0 gFr.rf
  refine gm_run X 4 (pc1 := 5) (ls1 := [_, _, _, _, _]) (st1 := []) rfl ?_
  have b23 := mI23 hI (j := b) (by omega) (by omega)
  exact loop (V 23 b.toNat).toNat 0 (by omega)
set_option maxHeartbeats 1000000 in
theorem mc_canDepart (l : Launch) (EV : gEV) (am : Nat) (ad : Nat → Nat) {V : gV} {y : Int} (hy : inR y) {t : Int} (ht : inR t) (hI : mI V) (hyt : isTrk y t) : MC l yX4_canDepart cX4_canDepart 7 (some .boolean) 2 EV am ad [.int (iI y), .int (iI t)] V (some (.int (iI (mCd V y t (V 6 (5 * y + t).toNat).toNat)))) (V) := by
  intro M0 hM0
  refine g_body tbX4_canDepart tkX4_canDepart (by decide) (by intro v hv; simp only [List.mem_cons, List.not_mem_nil, or_false] at hv; rcases hv with rfl | rfl | rfl <;> rfl) (Nat.le_of_ble_eq_true rfl) (fun z Q X hl hR hQ hE => ?_)
  subst hl
  have hs := mIs hI
  have loop : ∀ (j k : Nat), (k : Int) + j = V 6 (5 * y + t).toNat → gMd z (cX4_canDepart, yX4_canDepart.cls, 7, (some .boolean), tbX4_canDepart, yX4_canDepart.name) EV Q M0 am ad V 25 [some (.ref am), some (.int (iI y)), some (.int (iI t)), some (.int (iI (5 * y + t))), some (.int (iI (mCd V y t k))), some (.int (iI (k : Int))), none] [] := by
    intro j
    induction j with
    | zero =>
      intro k hk
      have hr := mCd_r V y t k
      have b6 := mI6 hI (j := 5 * y + t) (by omega) (by omega)
      refine gm_run X 2 (pc1 := 28) (ls1 := [_, _, _, _, _, _, _]) (st1 := [_, _]) rfl ?_
      refine gm_get X rfl fX4_19 (v := .ref (ad 6)) rfl ?_
      refine gm_run X 1 (pc1 := 32) (ls1 := [_, _, _, _, _, _, _]) (st1 := [_, _, _]) rfl ?_
      refine gm_ald X 6 (x := (5 * y + t)) (v := (V 6 (5 * y + t).toNat)) rfl rfl (by decide) (by show (0:Int) ≤ (5 * y + t) ∧ (5 * y + t) < 15; omega) (rfl) ?_
      have b32 := mI6 hI (j := (5 * y + t)) (by omega) (by omega)
      refine gm_br X (pc1 := 105) (st1 := []) rfl (fun b9 => ?_) (fun b9 => ?_)
      · have c33 : (V 6 (5 * y + t).toNat) ≤ (k : Int) := cLe b9 (by omega) (by omega)
        refine gm_run X 1 (pc1 := 107) (ls1 := [_, _, _, _, _, _, _]) (st1 := [_]) rfl ?_
        have e9 : k = (V 6 (5 * y + t).toNat).toNat := by omega
        subst e9
        exact gm_zret X hQ rfl rfl (bI_n2 (mCd_r V y t _)) rfl rfl
      · have c33 : (k : Int) < (V 6 (5 * y + t).toNat) := cNe b9 (by omega) (by omega)
        exact absurd c33 (by omega)
    | succ j ih =>
      intro k hk
      have hr := mCd_r V y t k
      have b6 := mI6 hI (j := 5 * y + t) (by omega) (by omega)
      refine gm_run X 2 (pc1 := 28) (ls1 := [_, _, _, _, _, _, _]) (st1 := [_, _]) rfl ?_
      refine gm_get X rfl fX4_19 (v := .ref (ad 6)) rfl ?_
      refine gm_run X 1 (pc1 := 32) (ls1 := [_, _, _, _, _, _, _]) (st1 := [_, _, _]) rfl ?_
      refine gm_ald X 6 (x := (5 * y + t)) (v := (V 6 (5 * y + t).toNat)) rfl rfl (by decide) (by show (0:Int) ≤ (5 * y + t) ∧ (5 * y + t) < 15; omega) (rfl) ?_
      have b32 := mI6 hI (j := (5 * y + t)) (by omega) (by omega)
      refine gm_br X (pc1 := 105) (st1 := []) rfl (fun b9 => ?_) (fun b9 => ?_)
      · have c33 : (V 6 (5 * y + t).toNat) ≤ (k : Int) := cLe b9 (by omega) (by omega)
        exact absurd c33 (by omega)
      · have c33 : (k : Int) < (V 6 (5 * y + t).toNat) := cNe b9 (by omega) (by omega)
        refine gm_run X 1 (pc1 := 38) (ls1 := [_, _, _, _, _, _, _]) (st1 := [_]) rfl ?_
        refine gm_br X (pc1 := 105) (st1 := []) rfl (fun b9 => ?_) (fun b9 => ?_)
        · have c38 : (mCd V y t k) = 0 := cEq b9 (by omega) (by omega)
          refine gm_run X 1 (pc1 := 107) (ls1 := [_, _, _, _, _, _, _]) (st1 := [_]) rfl ?_
          have e9 := mCd_0 (n := (V 6 (5 * y + t).toNat).toNat - k) c38
          rw [show k + ((V 6 (5 * y + t).toNat).toNat - k) = (V 6 (5 * y + t).toNat).toNat by omega] at e9
          exact gm_zret X hQ rfl rfl (bI_n2 (mCd_r V y t _)) (by rw [e9, c38]) rfl
        · have c38 : ¬ (mCd V y t k) = 0 := cNq b9 (by omega) (by omega)
          refine gm_run X 1 (pc1 := 42) (ls1 := [_, _, _, _, _, _, _]) (st1 := [_]) rfl ?_
          refine gm_get X rfl fX4_16 (v := .ref (ad 5)) rfl ?_
          refine gm_run X 1 (pc1 := 46) (ls1 := [_, _, _, _, _, _, _]) (st1 := [_, _]) rfl ?_
          refine gm_get X rfl fX4_22 (v := .ref (ad 7)) rfl ?_
          refine gm_run X 5 (pc1 := 56) (ls1 := [_, _, _, _, _, _, _]) (st1 := [_, _, _]) rfl ?_
          refine gm_eq (ls' := [some (.ref am), some (.int (iI y)), some (.int (iI t)), some (.int (iI (5 * y + t))), some (.int (iI (mCd V y t k))), some (.int (iI (k : Int))), none]) (st' := [.int (iI ((6 * (5 * y + t)) + (k : Int))), .ref (ad 7), .ref (ad 5)]) (by simp only [iI_add, iI_sub, iI_mul, iI_neg]) (by simp only [iI_add, iI_sub, iI_mul, iI_neg]) ?_
          refine gm_ald X 7 (x := ((6 * (5 * y + t)) + (k : Int))) (v := (V 7 ((6 * (5 * y + t)) + (k : Int)).toNat)) rfl rfl (by decide) (by show (0:Int) ≤ ((6 * (5 * y + t)) + (k : Int)) ∧ ((6 * (5 * y + t)) + (k : Int)) < 90; omega) (rfl) ?_
          have b56 := mI7 hI (a := (5 * y + t)) (k := (k : Int)) (by omega) (by omega) (by omega) (by omega)
          refine gm_ald X 5 (x := (V 7 ((6 * (5 * y + t)) + (k : Int)).toNat)) (v := (V 5 (V 7 ((6 * (5 * y + t)) + (k : Int)).toNat).toNat)) rfl rfl (by decide) (by show (0:Int) ≤ (V 7 ((6 * (5 * y + t)) + (k : Int)).toNat) ∧ (V 7 ((6 * (5 * y + t)) + (k : Int)).toNat) < 30; omega) (rfl) ?_
          have b57 := mI5 hI (j := (V 7 ((6 * (5 * y + t)) + (k : Int)).toNat)) (by omega) (by omega)
          refine gm_run X 3 (pc1 := 63) (ls1 := [_, _, _, _, _, _, _]) (st1 := [_, _]) rfl ?_
          refine gm_br X (pc1 := 96) (st1 := []) rfl (fun b9 => ?_) (fun b9 => ?_)
          · have c63 : (V 5 (V 7 ((6 * (5 * y + t)) + (k : Int)).toNat).toNat) = (-1) := cEq b9 (by omega) (by omega)
            refine gm_run X 4 (pc1 := 25) (ls1 := [_, _, _, _, _, _, _]) (st1 := []) rfl ?_
            refine gm_eq (ls' := [some (.ref am), some (.int (iI y)), some (.int (iI t)), some (.int (iI (5 * y + t))), some (.int (iI 0)), some (.int (iI ((k : Int) + 1))), some (.int (iI (V 5 (V 7 ((6 * (5 * y + t)) + (k : Int)).toNat).toNat)))]) (st' := []) (by simp only [iI_add, iI_sub, iI_mul, iI_neg]) (by simp only [iI_add, iI_sub, iI_mul, iI_neg]) ?_
            have e : mCd V y t (k + 1) = 0 := by rw [mCd]; first | rw [if_pos (by omega)] | rw [if_neg (by omega)]
            have h9 := ih (k + 1) (by omega)
            rw [e] at h9
            exact gm_forget [true, true, true, true, true, true, false] rfl h9
          · have c63 : ¬ (V 5 (V 7 ((6 * (5 * y + t)) + (k : Int)).toNat).toNat) = (-1) := cNq b9 (by omega) (by omega)
            refine gm_run X 1 (pc1 := 67) (ls1 := [_, _, _, _, _, _, _]) (st1 := [_]) rfl ?_
            refine gm_get X rfl fX4_47 (v := .ref (ad 18)) rfl ?_
            refine gm_run X 1 (pc1 := 72) (ls1 := [_, _, _, _, _, _, _]) (st1 := [_, _]) rfl ?_
            refine gm_ald X 18 (x := (V 5 (V 7 ((6 * (5 * y + t)) + (k : Int)).toNat).toNat)) (v := (V 18 (V 5 (V 7 ((6 * (5 * y + t)) + (k : Int)).toNat).toNat).toNat)) rfl rfl (by decide) (by show (0:Int) ≤ (V 5 (V 7 ((6 * (5 * y + t)) + (k : Int)).toNat).toNat) ∧ (V 5 (V 7 ((6 * (5 * y + t)) + (k : Int)).toNat).toNat) < 40; omega) (rfl) ?_
            have b72 := mI18 hI (j := (V 5 (V 7 ((6 * (5 * y + t)) + (k : Int)).toNat).toNat)) (by omega) (by omega)
            refine gm_run X 1 (pc1 := 74) (ls1 := [_, _, _, _, _, _, _]) (st1 := [_, _]) rfl ?_
            refine gm_br X (pc1 := 96) (st1 := []) rfl (fun b9 => ?_) (fun b9 => ?_)
            · have c74 : ¬ (V 18 (V 5 (V 7 ((6 * (5 * y + t)) + (k : Int)).toNat).toNat).toNat) = 2 := cNq b9 (by omega) (by omega)
              refine gm_run X 4 (pc1 := 25) (ls1 := [_, _, _, _, _, _, _]) (st1 := []) rfl ?_
              refine gm_eq (ls' := [some (.ref am), some (.int (iI y)), some (.int (iI t)), some (.int (iI (5 * y + t))), some (.int (iI 0)), some (.int (iI ((k : Int) + 1))), some (.int (iI (V 5 (V 7 ((6 * (5 * y + t)) + (k : Int)).toNat).toNat)))]) (st' := []) (by simp only [iI_add, iI_sub, iI_mul, iI_neg]) (by simp only [iI_add, iI_sub, iI_mul, iI_neg]) ?_
              have e : mCd V y t (k + 1) = 0 := by rw [mCd]; first | rw [if_pos (by omega)] | rw [if_neg (by omega)]
              have h9 := ih (k + 1) (by omega)
              rw [e] at h9
              exact gm_forget [true, true, true, true, true, true, false] rfl h9
            · have c74 : (V 18 (V 5 (V 7 ((6 * (5 * y + t)) + (k : Int)).toNat).toNat).toNat) = 2 := cEq b9 (by omega) (by omega)
              refine gm_run X 7 (pc1 := 86) (ls1 := [_, _, _, _, _, _, _]) (st1 := [_, _, _]) rfl ?_
              refine gm_eq (ls' := [some (.ref am), some (.int (iI y)), some (.int (iI t)), some (.int (iI (5 * y + t))), some (.int (iI (mCd V y t k))), some (.int (iI (k : Int))), some (.int (iI (V 5 (V 7 ((6 * (5 * y + t)) + (k : Int)).toNat).toNat)))]) (st' := [.int (iI ((10 * y) + t)), .int (iI (V 5 (V 7 ((6 * (5 * y + t)) + (k : Int)).toNat).toNat)), .ref am]) (by simp only [iI_add, iI_sub, iI_mul, iI_neg]) (by simp only [iI_add, iI_sub, iI_mul, iI_neg]) ?_
              refine gm_callV X rfl mX4_177 (mc_areOn z.2.1 EV am ad (b := (V 5 (V 7 ((6 * (5 * y + t)) + (k : Int)).toNat).toNat)) (x := ((10 * y) + t)) (by omega) (by omega) hI (by omega)) rfl rfl (Nat.le_of_ble_eq_true rfl) (gFit.of hR (by decide) (by decide) (by decide)) ?_
              refine gm_eq (st' := [.int (iI (mAo V (V 5 (V 7 ((6 * (5 * y + t)) + (k : Int)).toNat).toNat) ((10 * y) + t) (V 23 (V 5 (V 7 ((6 * (5 * y + t)) + (k : Int)).toNat).toNat).toNat).toNat))]) rfl rfl ?_
              have r86 := mAo_r V (V 5 (V 7 ((6 * (5 * y + t)) + (k : Int)).toNat).toNat) ((10 * y) + t) (V 23 (V 5 (V 7 ((6 * (5 * y + t)) + (k : Int)).toNat).toNat).toNat).toNat
              refine gm_br X (pc1 := 96) (st1 := []) rfl (fun b9 => ?_) (fun b9 => ?_)
              · have c89 : (mAo V (V 5 (V 7 ((6 * (5 * y + t)) + (k : Int)).toNat).toNat) ((10 * y) + t) (V 23 (V 5 (V 7 ((6 * (5 * y + t)) + (k : Int)).toNat).toNat).toNat).toNat) = 0 := cEq b9 (by omega) (by omega)
                refine gm_run X 4 (pc1 := 25) (ls1 := [_, _, _, _, _, _, _]) (st1 := []) rfl ?_
                refine gm_eq (ls' := [some (.ref am), some (.int (iI y)), some (.int (iI t)), some (.int (iI (5 * y + t))), some (.int (iI 0)), some (.int (iI ((k : Int) + 1))), some (.int (iI (V 5 (V 7 ((6 * (5 * y + t)) + (k : Int)).toNat).toNat)))]) (st' := []) (by simp only [iI_add, iI_sub, iI_mul, iI_neg]) (by simp only [iI_add, iI_sub, iI_mul, iI_neg]) ?_
                have e : mCd V y t (k + 1) = 0 := by rw [mCd]; first | rw [if_pos (by omega)] | rw [if_neg (by omega)]
                have h9 := ih (k + 1) (by omega)
                rw [e] at h9
                exact gm_forget [true, true, true, true, true, true, false] rfl h9
              · have c89 : ¬ (mAo V (V 5 (V 7 ((6 * (5 * y + t)) + (k : Int)).toNat).toNat) ((10 * y) + t) (V 23 (V 5 (V 7 ((6 * (5 * y + t)) + (k : Int)).toNat).toNat).toNat).toNat) = 0 := cNq b9 (by omega) (by omega)
                refine gm_run X 5 (pc1 := 25) (ls1 := [_, _, _, _, _, _, _]) (st1 := []) rfl ?_
                refine gm_eq (ls' := [some (.ref am), some (.int (iI y)), some (.int (iI t)), some (.int (iI (5 * y + t))), some (.int (iI 1)), some (.int (iI ((k : Int) + 1))), some (.int (iI (V 5 (V 7 ((6 * (5 * y + t)) + (k : Int)).toNat).toNat)))]) (st' := []) (by simp only [iI_add, iI_sub, iI_mul, iI_neg]) (by simp only [iI_add, iI_sub, iI_mul, iI_neg]) ?_
                have e : mCd V y t (k + 1) = 1 := by rw [mCd]; first | rw [if_pos (by omega)] | rw [if_neg (by omega)]
                have h9 := ih (k + 1) (by omega)
                rw [e] at h9
                exact gm_forget [true, true, true, true, true, true, false] rfl h9
  refine (?_ : gMd z _ EV Q M0 am ad V 0 [some (.ref am), some (.int (iI y)), some (.int (iI t)), none, none, none, none] []) M0 hM0 gFr.rf
  refine gm_run X 7 (pc1 := 7) (ls1 := [_, _, _, _, _, _, _]) (st1 := [_]) rfl ?_
  refine gm_eq (ls' := [some (.ref am), some (.int (iI y)), some (.int (iI t)), some (.int (iI ((5 * y) + t))), none, none, none]) (st' := [.ref am]) (by simp only [iI_add, iI_sub, iI_mul, iI_neg]) (by simp only [iI_add, iI_sub, iI_mul, iI_neg]) ?_
  refine gm_get X rfl fX4_19 (v := .ref (ad 6)) rfl ?_
  refine gm_run X 1 (pc1 := 11) (ls1 := [_, _, _, _, _, _, _]) (st1 := [_, _]) rfl ?_
  refine gm_ald X 6 (x := ((5 * y) + t)) (v := (V 6 ((5 * y) + t).toNat)) rfl rfl (by decide) (by show (0:Int) ≤ ((5 * y) + t) ∧ ((5 * y) + t) < 15; omega) (rfl) ?_
  have b11 := mI6 hI (j := ((5 * y) + t)) (by omega) (by omega)
  refine gm_br X (pc1 := 19) (st1 := []) rfl (fun b9 => ?_) (fun b9 => ?_)
  · have c12 : (V 6 ((5 * y) + t).toNat) ≤ 0 := cLe b9 (by omega) (by omega)
    refine gm_run X 4 (pc1 := 25) (ls1 := [_, _, _, _, _, _, _]) (st1 := []) rfl ?_
    have e0 : mCd V y t 0 = 0 := by rw [mCd]; first | rw [if_pos (by omega)] | rw [if_neg (by omega)]
    have h9 := loop (V 6 (5 * y + t).toNat).toNat 0 (by omega)
    rw [e0] at h9
    exact h9
  · have c12 : 0 < (V 6 ((5 * y) + t).toNat) := cNe b9 (by omega) (by omega)
    refine gm_run X 5 (pc1 := 25) (ls1 := [_, _, _, _, _, _, _]) (st1 := []) rfl ?_
    have e0 : mCd V y t 0 = 1 := by rw [mCd]; first | rw [if_pos (by omega)] | rw [if_neg (by omega)]
    have h9 := loop (V 6 (5 * y + t).toNat).toNat 0 (by omega)
    rw [e0] at h9
    exact h9
set_option maxHeartbeats 1000000 in
theorem mc_depart (l : Launch) (EV : gEV) (am : Nat) (ad : Nat → Nat) {V : gV} {y : Int} (hy : inR y) {t : Int} (ht : inR t) {o : Int} (ho : inR o) (hI : mI V) (htr : mDepT V y t o = 0 → V 25 0 < 40) : MC l yX4_depart cX4_depart 7 (some .int) 5 EV am ad [.int (iI y), .int (iI t), .int (iI o)] V (some (.int (iI (mDep V y t o).1))) ((mDep V y t o).2) := by
  intro M0 hM0
  refine g_body tbX4_depart tkX4_depart (by decide) (by intro v hv; simp only [List.mem_cons, List.not_mem_nil, or_false] at hv; rcases hv with rfl | rfl | rfl | rfl <;> rfl) (Nat.le_of_ble_eq_true rfl) (fun z Q X hl hR hQ hE => ?_)
  subst hl
  have hs := mIs hI
  have loop : mDepT V y t o = 0 → isTrk y t → ¬ mCd V y t (V 6 (5 * y + t).toNat).toNat = 0 → V 25 0 < 40 → ∀ (j k : Nat), (k : Int) + j = V 6 (5 * y + t).toNat → gMd z (cX4_depart, yX4_depart.cls, 7, (some .int), tbX4_depart, yX4_depart.name) EV Q M0 am ad (mDp (vS V 0 0 0) (5 * y + t) k) 61 [some (.ref am), some (.int (iI y)), some (.int (iI t)), some (.int (iI o)), some (.int (iI (5 * y + t))), some (.int (iI (k : Int))), none] [] := by
    intro hT hyt hcd htr j
    induction j with
    | zero =>
      intro k hk
      have b6 := mI6 hI (j := 5 * y + t) (by omega) (by omega)
      have e6 : (mDp (vS V 0 0 0) (5 * y + t) k) 6 (5 * y + t).toNat = V 6 (5 * y + t).toNat := mDp_k (by decide) k
      have e25 : (mDp (vS V 0 0 0) (5 * y + t) k) 25 0 = V 25 0 := mDp_k (by decide) k
      refine gm_run X 2 (pc1 := 64) (ls1 := [_, _, _, _, _, _, _]) (st1 := [_, _]) rfl ?_
      refine gm_get X rfl fX4_19 (v := .ref (ad 6)) rfl ?_
      refine gm_run X 1 (pc1 := 69) (ls1 := [_, _, _, _, _, _, _]) (st1 := [_, _, _]) rfl ?_
      refine gm_ald X 6 (x := (5 * y + t)) (v := ((mDp (vS V 0 0 0) (5 * y + t) k) 6 (5 * y + t).toNat)) rfl rfl (by decide) (by show (0:Int) ≤ (5 * y + t) ∧ (5 * y + t) < 15; omega) (rfl) ?_
      refine gm_br X (pc1 := 151) (st1 := []) rfl (fun b9 => ?_) (fun b9 => ?_)
      · have c70 : ((mDp (vS V 0 0 0) (5 * y + t) k) 6 (5 * y + t).toNat) ≤ (k : Int) := cLe b9 (by omega) (by omega)
        refine gm_run X 1 (pc1 := 152) (ls1 := [_, _, _, _, _, _, _]) (st1 := [_]) rfl ?_
        refine gm_get X rfl fX4_74 (v := .ref (ad 28)) rfl ?_
        refine gm_run X 1 (pc1 := 156) (ls1 := [_, _, _, _, _, _, _]) (st1 := [_, _]) rfl ?_
        refine gm_get X rfl fX4_183 (v := .int (iI ((mDp (vS V 0 0 0) (5 * y + t) k) 25 0))) rfl ?_
        refine gm_run X 1 (pc1 := 160) (ls1 := [_, _, _, _, _, _, _]) (st1 := [_, _, _]) rfl ?_
        refine gm_get X rfl fX4_19 (v := .ref (ad 6)) rfl ?_
        refine gm_run X 1 (pc1 := 165) (ls1 := [_, _, _, _, _, _, _]) (st1 := [_, _, _, _]) rfl ?_
        refine gm_ald X 6 (x := (5 * y + t)) (v := ((mDp (vS V 0 0 0) (5 * y + t) k) 6 (5 * y + t).toNat)) rfl rfl (by decide) (by show (0:Int) ≤ (5 * y + t) ∧ (5 * y + t) < 15; omega) (rfl) ?_
        refine gm_ast X 28 (x := ((mDp (vS V 0 0 0) (5 * y + t) k) 25 0)) (v := ((mDp (vS V 0 0 0) (5 * y + t) k) 6 (5 * y + t).toNat)) rfl rfl (by decide) (by show (0:Int) ≤ ((mDp (vS V 0 0 0) (5 * y + t) k) 25 0) ∧ ((mDp (vS V 0 0 0) (5 * y + t) k) 25 0) < 40; omega) ?_
        refine gm_run X 1 (pc1 := 168) (ls1 := [_, _, _, _, _, _, _]) (st1 := [_]) rfl ?_
        refine gm_get X rfl fX4_19 (v := .ref (ad 6)) rfl ?_
        refine gm_run X 2 (pc1 := 174) (ls1 := [_, _, _, _, _, _, _]) (st1 := [_, _, _]) rfl ?_
        refine gm_ast X 6 (x := (5 * y + t)) (v := 0) rfl rfl (by decide) (by show (0:Int) ≤ (5 * y + t) ∧ (5 * y + t) < 15; omega) ?_
        refine gm_run X 1 (pc1 := 176) (ls1 := [_, _, _, _, _, _, _]) (st1 := [_]) rfl ?_
        refine gm_get X rfl fX4_68 (v := .ref (ad 26)) rfl ?_
        refine gm_run X 1 (pc1 := 180) (ls1 := [_, _, _, _, _, _, _]) (st1 := [_, _]) rfl ?_
        refine gm_get X rfl fX4_183 (v := .int (iI ((mDp (vS V 0 0 0) (5 * y + t) k) 25 0))) rfl ?_
        refine gm_run X 1 (pc1 := 184) (ls1 := [_, _, _, _, _, _, _]) (st1 := [_, _, _]) rfl ?_
        refine gm_ast X 26 (x := ((mDp (vS V 0 0 0) (5 * y + t) k) 25 0)) (v := o) rfl rfl (by decide) (by show (0:Int) ≤ ((mDp (vS V 0 0 0) (5 * y + t) k) 25 0) ∧ ((mDp (vS V 0 0 0) (5 * y + t) k) 25 0) < 40; omega) ?_
        refine gm_run X 2 (pc1 := 187) (ls1 := [_, _, _, _, _, _, _]) (st1 := [_, _]) rfl ?_
        refine gm_get X rfl fX4_183 (v := .int (iI ((mDp (vS V 0 0 0) (5 * y + t) k) 25 0))) rfl ?_
        refine gm_run X 2 (pc1 := 192) (ls1 := [_, _, _, _, _, _, _]) (st1 := [_, _]) rfl ?_
        refine gm_eq (ls' := [some (.ref am), some (.int (iI y)), some (.int (iI t)), some (.int (iI o)), some (.int (iI (5 * y + t))), some (.int (iI (k : Int))), none]) (st' := [.int (iI (((mDp (vS V 0 0 0) (5 * y + t) k) 25 0) + 1)), .ref am]) (by simp only [iI_add, iI_sub, iI_mul, iI_neg]) (by simp only [iI_add, iI_sub, iI_mul, iI_neg]) ?_
        refine gm_put X (v := (((mDp (vS V 0 0 0) (5 * y + t) k) 25 0) + 1)) rfl fX4_183 (by decide) rfl mSet25 ?_
        refine gm_run X 1 (pc1 := 196) (ls1 := [_, _, _, _, _, _, _]) (st1 := [_]) rfl ?_
        refine gm_get X rfl fX4_183 (v := .int (iI (((mDp (vS V 0 0 0) (5 * y + t) k) 25 0) + 1))) rfl ?_
        refine gm_run X 2 (pc1 := 201) (ls1 := [_, _, _, _, _, _, _]) (st1 := [_]) rfl ?_
        refine gm_eq (ls' := [some (.ref am), some (.int (iI y)), some (.int (iI t)), some (.int (iI o)), some (.int (iI (5 * y + t))), some (.int (iI (k : Int))), none]) (st' := [.int (iI ((((mDp (vS V 0 0 0) (5 * y + t) k) 25 0) + 1) - 1))]) (by simp only [iI_add, iI_sub, iI_mul, iI_neg]) (by simp only [iI_add, iI_sub, iI_mul, iI_neg]) ?_
        have e9 : k = (V 6 (5 * y + t).toNat).toNat := by omega
        subst e9
        exact gm_ret X hQ rfl rfl (by unfold mDep; rw [hT]; (repeat (first | rw [if_pos (by omega)] | rw [if_neg (by omega)])); all_goals (try rfl)) (by unfold mDep; rw [hT]; (repeat (first | rw [if_pos (by omega)] | rw [if_neg (by omega)])); all_goals (try rfl))
      · have c70 : (k : Int) < ((mDp (vS V 0 0 0) (5 * y + t) k) 6 (5 * y + t).toNat) := cNe b9 (by omega) (by omega)
        exact absurd c70 (by omega)
    | succ j ih =>
      intro k hk
      have b6 := mI6 hI (j := 5 * y + t) (by omega) (by omega)
      have e6 : (mDp (vS V 0 0 0) (5 * y + t) k) 6 (5 * y + t).toNat = V 6 (5 * y + t).toNat := mDp_k (by decide) k
      have e25 : (mDp (vS V 0 0 0) (5 * y + t) k) 25 0 = V 25 0 := mDp_k (by decide) k
      have b7 := mI7 hI (a := 5 * y + t) (k := (k : Int)) (by omega) (by omega) (by omega) (by omega)
      have e7 : (mDp (vS V 0 0 0) (5 * y + t) k) 7 (6 * (5 * y + t) + (k : Int)).toNat = (V 7 (6 * (5 * y + t) + (k : Int)).toNat) := mDp_k (by decide) k
      have e5 : (mDp (vS V 0 0 0) (5 * y + t) k) 5 ((mDp (vS V 0 0 0) (5 * y + t) k) 7 (6 * (5 * y + t) + (k : Int)).toNat).toNat = V 5 (V 7 (6 * (5 * y + t) + (k : Int)).toNat).toNat := by rw [e7]; exact mDp_k (by decide) k
      have b5 := mI5 hI (j := (V 7 (6 * (5 * y + t) + (k : Int)).toNat)) (by omega) (by omega)
      have hb := mCd_b hcd (k := k) (by omega)
      refine gm_run X 2 (pc1 := 64) (ls1 := [_, _, _, _, _, _, _]) (st1 := [_, _]) rfl ?_
      refine gm_get X rfl fX4_19 (v := .ref (ad 6)) rfl ?_
      refine gm_run X 1 (pc1 := 69) (ls1 := [_, _, _, _, _, _, _]) (st1 := [_, _, _]) rfl ?_
      refine gm_ald X 6 (x := (5 * y + t)) (v := ((mDp (vS V 0 0 0) (5 * y + t) k) 6 (5 * y + t).toNat)) rfl rfl (by decide) (by show (0:Int) ≤ (5 * y + t) ∧ (5 * y + t) < 15; omega) (rfl) ?_
      refine gm_br X (pc1 := 151) (st1 := []) rfl (fun b9 => ?_) (fun b9 => ?_)
      · have c70 : ((mDp (vS V 0 0 0) (5 * y + t) k) 6 (5 * y + t).toNat) ≤ (k : Int) := cLe b9 (by omega) (by omega)
        exact absurd c70 (by omega)
      · have c70 : (k : Int) < ((mDp (vS V 0 0 0) (5 * y + t) k) 6 (5 * y + t).toNat) := cNe b9 (by omega) (by omega)
        refine gm_run X 1 (pc1 := 74) (ls1 := [_, _, _, _, _, _, _]) (st1 := [_]) rfl ?_
        refine gm_get X rfl fX4_22 (v := .ref (ad 7)) rfl ?_
        refine gm_run X 5 (pc1 := 85) (ls1 := [_, _, _, _, _, _, _]) (st1 := [_, _]) rfl ?_
        refine gm_eq (ls' := [some (.ref am), some (.int (iI y)), some (.int (iI t)), some (.int (iI o)), some (.int (iI (5 * y + t))), some (.int (iI (k : Int))), none]) (st' := [.int (iI ((6 * (5 * y + t)) + (k : Int))), .ref (ad 7)]) (by simp only [iI_add, iI_sub, iI_mul, iI_neg]) (by simp only [iI_add, iI_sub, iI_mul, iI_neg]) ?_
        refine gm_ald X 7 (x := ((6 * (5 * y + t)) + (k : Int))) (v := ((mDp (vS V 0 0 0) (5 * y + t) k) 7 ((6 * (5 * y + t)) + (k : Int)).toNat)) rfl rfl (by decide) (by show (0:Int) ≤ ((6 * (5 * y + t)) + (k : Int)) ∧ ((6 * (5 * y + t)) + (k : Int)) < 90; omega) (rfl) ?_
        refine gm_run X 2 (pc1 := 89) (ls1 := [_, _, _, _, _, _, _]) (st1 := [_]) rfl ?_
        refine gm_get X rfl fX4_77 (v := .ref (ad 29)) rfl ?_
        refine gm_run X 2 (pc1 := 95) (ls1 := [_, _, _, _, _, _, _]) (st1 := [_, _, _]) rfl ?_
        refine gm_get X rfl fX4_183 (v := .int (iI ((mDp (vS V 0 0 0) (5 * y + t) k) 25 0))) rfl ?_
        refine gm_run X 4 (pc1 := 104) (ls1 := [_, _, _, _, _, _, _]) (st1 := [_, _, _]) rfl ?_
        refine gm_eq (ls' := [some (.ref am), some (.int (iI y)), some (.int (iI t)), some (.int (iI o)), some (.int (iI (5 * y + t))), some (.int (iI (k : Int))), some (.int (iI ((mDp (vS V 0 0 0) (5 * y + t) k) 7 ((6 * (5 * y + t)) + (k : Int)).toNat)))]) (st' := [.int (iI ((mDp (vS V 0 0 0) (5 * y + t) k) 7 ((6 * (5 * y + t)) + (k : Int)).toNat)), .int (iI ((6 * ((mDp (vS V 0 0 0) (5 * y + t) k) 25 0)) + (k : Int))), .ref (ad 29)]) (by simp only [iI_add, iI_sub, iI_mul, iI_neg]) (by simp only [iI_add, iI_sub, iI_mul, iI_neg]) ?_
        refine gm_ast X 29 (x := ((6 * ((mDp (vS V 0 0 0) (5 * y + t) k) 25 0)) + (k : Int))) (v := ((mDp (vS V 0 0 0) (5 * y + t) k) 7 ((6 * (5 * y + t)) + (k : Int)).toNat)) rfl rfl (by decide) (by show (0:Int) ≤ ((6 * ((mDp (vS V 0 0 0) (5 * y + t) k) 25 0)) + (k : Int)) ∧ ((6 * ((mDp (vS V 0 0 0) (5 * y + t) k) 25 0)) + (k : Int)) < 240; omega) ?_
        refine gm_run X 1 (pc1 := 106) (ls1 := [_, _, _, _, _, _, _]) (st1 := [_]) rfl ?_
        refine gm_get X rfl fX4_7 (v := .ref (ad 3)) rfl ?_
        refine gm_run X 2 (pc1 := 112) (ls1 := [_, _, _, _, _, _, _]) (st1 := [_, _, _]) rfl ?_
        refine gm_ast X 3 (x := ((mDp (vS V 0 0 0) (5 * y + t) k) 7 ((6 * (5 * y + t)) + (k : Int)).toNat)) (v := (-1)) rfl rfl (by decide) (by show (0:Int) ≤ ((mDp (vS V 0 0 0) (5 * y + t) k) 7 ((6 * (5 * y + t)) + (k : Int)).toNat) ∧ ((mDp (vS V 0 0 0) (5 * y + t) k) 7 ((6 * (5 * y + t)) + (k : Int)).toNat) < 30; omega) ?_
        refine gm_run X 1 (pc1 := 114) (ls1 := [_, _, _, _, _, _, _]) (st1 := [_]) rfl ?_
        refine gm_get X rfl fX4_13 (v := .ref (ad 4)) rfl ?_
        refine gm_run X 2 (pc1 := 120) (ls1 := [_, _, _, _, _, _, _]) (st1 := [_, _, _]) rfl ?_
        refine gm_get X rfl fX4_50 (v := .ref (ad 19)) rfl ?_
        refine gm_run X 1 (pc1 := 124) (ls1 := [_, _, _, _, _, _, _]) (st1 := [_, _, _, _]) rfl ?_
        refine gm_get X rfl fX4_16 (v := .ref (ad 5)) rfl ?_
        refine gm_run X 1 (pc1 := 129) (ls1 := [_, _, _, _, _, _, _]) (st1 := [_, _, _, _, _]) rfl ?_
        refine gm_ald X 5 (x := ((mDp (vS V 0 0 0) (5 * y + t) k) 7 ((6 * (5 * y + t)) + (k : Int)).toNat)) (v := ((mDp (vS V 0 0 0) (5 * y + t) k) 5 ((mDp (vS V 0 0 0) (5 * y + t) k) 7 ((6 * (5 * y + t)) + (k : Int)).toNat).toNat)) rfl rfl (by decide) (by show (0:Int) ≤ ((mDp (vS V 0 0 0) (5 * y + t) k) 7 ((6 * (5 * y + t)) + (k : Int)).toNat) ∧ ((mDp (vS V 0 0 0) (5 * y + t) k) 7 ((6 * (5 * y + t)) + (k : Int)).toNat) < 30; omega) (rfl) ?_
        refine gm_ald X 19 (x := ((mDp (vS V 0 0 0) (5 * y + t) k) 5 ((mDp (vS V 0 0 0) (5 * y + t) k) 7 ((6 * (5 * y + t)) + (k : Int)).toNat).toNat)) (v := ((mDp (vS V 0 0 0) (5 * y + t) k) 19 ((mDp (vS V 0 0 0) (5 * y + t) k) 5 ((mDp (vS V 0 0 0) (5 * y + t) k) 7 ((6 * (5 * y + t)) + (k : Int)).toNat).toNat).toNat)) rfl rfl (by decide) (by show (0:Int) ≤ ((mDp (vS V 0 0 0) (5 * y + t) k) 5 ((mDp (vS V 0 0 0) (5 * y + t) k) 7 ((6 * (5 * y + t)) + (k : Int)).toNat).toNat) ∧ ((mDp (vS V 0 0 0) (5 * y + t) k) 5 ((mDp (vS V 0 0 0) (5 * y + t) k) 7 ((6 * (5 * y + t)) + (k : Int)).toNat).toNat) < 40; omega) (rfl) ?_
        refine gm_ast X 4 (x := ((mDp (vS V 0 0 0) (5 * y + t) k) 7 ((6 * (5 * y + t)) + (k : Int)).toNat)) (v := ((mDp (vS V 0 0 0) (5 * y + t) k) 19 ((mDp (vS V 0 0 0) (5 * y + t) k) 5 ((mDp (vS V 0 0 0) (5 * y + t) k) 7 ((6 * (5 * y + t)) + (k : Int)).toNat).toNat).toNat)) rfl rfl (by decide) (by show (0:Int) ≤ ((mDp (vS V 0 0 0) (5 * y + t) k) 7 ((6 * (5 * y + t)) + (k : Int)).toNat) ∧ ((mDp (vS V 0 0 0) (5 * y + t) k) 7 ((6 * (5 * y + t)) + (k : Int)).toNat) < 30; omega) ?_
        refine gm_run X 1 (pc1 := 133) (ls1 := [_, _, _, _, _, _, _]) (st1 := [_]) rfl ?_
        refine gm_get X rfl fX4_47 (v := .ref (ad 18)) rfl ?_
        refine gm_run X 1 (pc1 := 137) (ls1 := [_, _, _, _, _, _, _]) (st1 := [_, _]) rfl ?_
        refine gm_get X rfl fX4_16 (v := .ref (ad 5)) rfl ?_
        refine gm_run X 1 (pc1 := 142) (ls1 := [_, _, _, _, _, _, _]) (st1 := [_, _, _]) rfl ?_
        refine gm_ald X 5 (x := ((mDp (vS V 0 0 0) (5 * y + t) k) 7 ((6 * (5 * y + t)) + (k : Int)).toNat)) (v := ((mDp (vS V 0 0 0) (5 * y + t) k) 5 ((mDp (vS V 0 0 0) (5 * y + t) k) 7 ((6 * (5 * y + t)) + (k : Int)).toNat).toNat)) rfl rfl (by decide) (by show (0:Int) ≤ ((mDp (vS V 0 0 0) (5 * y + t) k) 7 ((6 * (5 * y + t)) + (k : Int)).toNat) ∧ ((mDp (vS V 0 0 0) (5 * y + t) k) 7 ((6 * (5 * y + t)) + (k : Int)).toNat) < 30; omega) (rfl) ?_
        refine gm_run X 1 (pc1 := 144) (ls1 := [_, _, _, _, _, _, _]) (st1 := [_, _, _]) rfl ?_
        refine gm_ast X 18 (x := ((mDp (vS V 0 0 0) (5 * y + t) k) 5 ((mDp (vS V 0 0 0) (5 * y + t) k) 7 ((6 * (5 * y + t)) + (k : Int)).toNat).toNat)) (v := 3) rfl rfl (by decide) (by show (0:Int) ≤ ((mDp (vS V 0 0 0) (5 * y + t) k) 5 ((mDp (vS V 0 0 0) (5 * y + t) k) 7 ((6 * (5 * y + t)) + (k : Int)).toNat).toNat) ∧ ((mDp (vS V 0 0 0) (5 * y + t) k) 5 ((mDp (vS V 0 0 0) (5 * y + t) k) 7 ((6 * (5 * y + t)) + (k : Int)).toNat).toNat) < 40; omega) ?_
        refine gm_run X 2 (pc1 := 61) (ls1 := [_, _, _, _, _, _, _]) (st1 := []) rfl ?_
        refine gm_eq (ls' := [some (.ref am), some (.int (iI y)), some (.int (iI t)), some (.int (iI o)), some (.int (iI (5 * y + t))), some (.int (iI ((k : Int) + 1))), some (.int (iI ((mDp (vS V 0 0 0) (5 * y + t) k) 7 ((6 * (5 * y + t)) + (k : Int)).toNat)))]) (st' := []) (by simp only [iI_add, iI_sub, iI_mul, iI_neg]) (by simp only [iI_add, iI_sub, iI_mul, iI_neg]) ?_
        have e : mDp (vS V 0 0 0) (5 * y + t) (k + 1) = (vS (vS (vS (vS (mDp (vS V 0 0 0) (5 * y + t) k) 29 ((6 * ((mDp (vS V 0 0 0) (5 * y + t) k) 25 0)) + (k : Int)).toNat ((mDp (vS V 0 0 0) (5 * y + t) k) 7 ((6 * (5 * y + t)) + (k : Int)).toNat)) 3 ((mDp (vS V 0 0 0) (5 * y + t) k) 7 ((6 * (5 * y + t)) + (k : Int)).toNat).toNat (-1)) 4 ((mDp (vS V 0 0 0) (5 * y + t) k) 7 ((6 * (5 * y + t)) + (k : Int)).toNat).toNat ((mDp (vS V 0 0 0) (5 * y + t) k) 19 ((mDp (vS V 0 0 0) (5 * y + t) k) 5 ((mDp (vS V 0 0 0) (5 * y + t) k) 7 ((6 * (5 * y + t)) + (k : Int)).toNat).toNat).toNat)) 18 ((mDp (vS V 0 0 0) (5 * y + t) k) 5 ((mDp (vS V 0 0 0) (5 * y + t) k) 7 ((6 * (5 * y + t)) + (k : Int)).toNat).toNat).toNat 3) := rfl
        have h9 := ih (k + 1) (by omega)
        rw [e] at h9
        exact gm_forget [true, true, true, true, true, true, false] rfl h9
  refine (?_ : gMd z _ EV Q M0 am ad V 0 [some (.ref am), some (.int (iI y)), some (.int (iI t)), some (.int (iI o)), none, none, none] []) M0 hM0 gFr.rf
  refine gm_run X 3 (pc1 := 3) (ls1 := [_, _, _, _, _, _, _]) (st1 := [_, _, _]) rfl ?_
  refine gm_callS X rfl mX4_95 (fun M => mc_isTrack z.2.1 EV M (y := y) (t := t) (by omega) (by omega)) rfl rfl (Nat.le_of_ble_eq_true rfl) (gFit.of hR (by decide) (by decide) (by decide)) ?_
  refine gm_eq (st' := [.int (iI (bI (isTrk y t))), .ref am]) rfl rfl ?_
  refine gm_br X (pc1 := 21) (st1 := [_]) rfl (fun b9 => ?_) (fun b9 => ?_)
  · have c6 : ¬ (isTrk y t) := bI_f b9
    refine gm_run X 2 (pc1 := 39) (ls1 := [_, _, _, _, _, _, _]) (st1 := [_, _]) rfl ?_
    refine gm_put X (v := 1) rfl fX4_80 (by decide) rfl mSet0 ?_
    have hT : mDepT V y t o = 1 := by unfold mDepT; (repeat' split) <;> omega
    refine gm_run X 1 (pc1 := 43) (ls1 := [_, _, _, _, _, _, _]) (st1 := [_]) rfl ?_
    refine gm_get X rfl fX4_80 (v := .int (iI 1)) rfl ?_
    refine gm_br X (pc1 := 51) (st1 := []) rfl (fun b9 => ?_) (fun b9 => ?_)
    · have c46 : (1 : Int) ≤ (0 : Int) := cLe b9 (by omega) (by omega)
      exact absurd c46 (by omega)
    · have c46 : (0 : Int) < (1 : Int) := cNe b9 (by omega) (by omega)
      refine gm_run X 1 (pc1 := 50) (ls1 := [_, _, _, _, _, _, _]) (st1 := [_]) rfl ?_
      exact gm_ret X hQ rfl rfl (by unfold mDep; rw [hT]; (repeat (first | rw [if_pos (by omega)] | rw [if_neg (by omega)])); all_goals (try rfl)) (by unfold mDep; rw [hT]; (repeat (first | rw [if_pos (by omega)] | rw [if_neg (by omega)])); all_goals (try rfl))
  · have c6 : isTrk y t := bI_t b9
    refine gm_run X 1 (pc1 := 10) (ls1 := [_, _, _, _, _, _, _]) (st1 := [_, _]) rfl ?_
    refine gm_callS X rfl mX4_88 (fun M => mc_isYard z.2.1 EV M (y := o) (by omega)) rfl rfl (Nat.le_of_ble_eq_true rfl) (gFit.of hR (by decide) (by decide) (by decide)) ?_
    refine gm_eq (st' := [.int (iI (bI (isYd o))), .ref am]) rfl rfl ?_
    refine gm_br X (pc1 := 21) (st1 := [_]) rfl (fun b9 => ?_) (fun b9 => ?_)
    · have c13 : ¬ (isYd o) := bI_f b9
      refine gm_run X 2 (pc1 := 39) (ls1 := [_, _, _, _, _, _, _]) (st1 := [_, _]) rfl ?_
      refine gm_put X (v := 1) rfl fX4_80 (by decide) rfl mSet0 ?_
      have hT : mDepT V y t o = 1 := by unfold mDepT; (repeat' split) <;> omega
      refine gm_run X 1 (pc1 := 43) (ls1 := [_, _, _, _, _, _, _]) (st1 := [_]) rfl ?_
      refine gm_get X rfl fX4_80 (v := .int (iI 1)) rfl ?_
      refine gm_br X (pc1 := 51) (st1 := []) rfl (fun b9 => ?_) (fun b9 => ?_)
      · have c46 : (1 : Int) ≤ (0 : Int) := cLe b9 (by omega) (by omega)
        exact absurd c46 (by omega)
      · have c46 : (0 : Int) < (1 : Int) := cNe b9 (by omega) (by omega)
        refine gm_run X 1 (pc1 := 50) (ls1 := [_, _, _, _, _, _, _]) (st1 := [_]) rfl ?_
        exact gm_ret X hQ rfl rfl (by unfold mDep; rw [hT]; (repeat (first | rw [if_pos (by omega)] | rw [if_neg (by omega)])); all_goals (try rfl)) (by unfold mDep; rw [hT]; (repeat (first | rw [if_pos (by omega)] | rw [if_neg (by omega)])); all_goals (try rfl))
    · have c13 : isYd o := bI_t b9
      refine gm_run X 2 (pc1 := 18) (ls1 := [_, _, _, _, _, _, _]) (st1 := [_, _, _]) rfl ?_
      refine gm_br X (pc1 := 25) (st1 := [_]) rfl (fun b9 => ?_) (fun b9 => ?_)
      · have c18 : ¬ y = o := cNq b9 (by omega) (by omega)
        refine gm_run X 3 (pc1 := 28) (ls1 := [_, _, _, _, _, _, _]) (st1 := [_, _, _, _]) rfl ?_
        refine gm_callV X rfl mX4_180 (mc_canDepart z.2.1 EV am ad (y := y) (t := t) (by omega) (by omega) hI (by omega)) rfl rfl (Nat.le_of_ble_eq_true rfl) (gFit.of hR (by decide) (by decide) (by decide)) ?_
        refine gm_eq (st' := [.int (iI (mCd V y t (V 6 (5 * y + t).toNat).toNat)), .ref am]) rfl rfl ?_
        have r28 := mCd_r V y t (V 6 (5 * y + t).toNat).toNat
        refine gm_br X (pc1 := 38) (st1 := [_]) rfl (fun b9 => ?_) (fun b9 => ?_)
        · have c31 : (mCd V y t (V 6 (5 * y + t).toNat).toNat) = 0 := cEq b9 (by omega) (by omega)
          refine gm_run X 1 (pc1 := 39) (ls1 := [_, _, _, _, _, _, _]) (st1 := [_, _]) rfl ?_
          refine gm_put X (v := 2) rfl fX4_80 (by decide) rfl mSet0 ?_
          have hT : mDepT V y t o = 2 := by unfold mDepT; (repeat' split) <;> omega
          refine gm_run X 1 (pc1 := 43) (ls1 := [_, _, _, _, _, _, _]) (st1 := [_]) rfl ?_
          refine gm_get X rfl fX4_80 (v := .int (iI 2)) rfl ?_
          refine gm_br X (pc1 := 51) (st1 := []) rfl (fun b9 => ?_) (fun b9 => ?_)
          · have c46 : (2 : Int) ≤ (0 : Int) := cLe b9 (by omega) (by omega)
            exact absurd c46 (by omega)
          · have c46 : (0 : Int) < (2 : Int) := cNe b9 (by omega) (by omega)
            refine gm_run X 1 (pc1 := 50) (ls1 := [_, _, _, _, _, _, _]) (st1 := [_]) rfl ?_
            exact gm_ret X hQ rfl rfl (by unfold mDep; rw [hT]; (repeat (first | rw [if_pos (by omega)] | rw [if_neg (by omega)])); all_goals (try rfl)) (by unfold mDep; rw [hT]; (repeat (first | rw [if_pos (by omega)] | rw [if_neg (by omega)])); all_goals (try rfl))
        · have c31 : ¬ (mCd V y t (V 6 (5 * y + t).toNat).toNat) = 0 := cNq b9 (by omega) (by omega)
          refine gm_run X 2 (pc1 := 39) (ls1 := [_, _, _, _, _, _, _]) (st1 := [_, _]) rfl ?_
          refine gm_put X (v := 0) rfl fX4_80 (by decide) rfl mSet0 ?_
          have hT : mDepT V y t o = 0 := by unfold mDepT; (repeat' split) <;> omega
          refine gm_run X 1 (pc1 := 43) (ls1 := [_, _, _, _, _, _, _]) (st1 := [_]) rfl ?_
          refine gm_get X rfl fX4_80 (v := .int (iI 0)) rfl ?_
          refine gm_br X (pc1 := 51) (st1 := []) rfl (fun b9 => ?_) (fun b9 => ?_)
          · have c46 : (0 : Int) ≤ (0 : Int) := cLe b9 (by omega) (by omega)
            refine gm_run X 8 (pc1 := 61) (ls1 := [_, _, _, _, _, _, _]) (st1 := []) rfl ?_
            refine gm_eq (ls' := [some (.ref am), some (.int (iI y)), some (.int (iI t)), some (.int (iI o)), some (.int (iI ((5 * y) + t))), some (.int (iI 0)), none]) (st' := []) (by simp only [iI_add, iI_sub, iI_mul, iI_neg]) (by simp only [iI_add, iI_sub, iI_mul, iI_neg]) ?_
            have b6 := mI6 hI (j := 5 * y + t) (by omega) (by omega)
            exact loop hT (by omega) c31 (htr hT) (V 6 (5 * y + t).toNat).toNat 0 (by omega)
          · have c46 : (0 : Int) < (0 : Int) := cNe b9 (by omega) (by omega)
            exact absurd c46 (by omega)
      · have c18 : y = o := cEq b9 (by omega) (by omega)
        refine gm_run X 2 (pc1 := 39) (ls1 := [_, _, _, _, _, _, _]) (st1 := [_, _]) rfl ?_
        refine gm_put X (v := 1) rfl fX4_80 (by decide) rfl mSet0 ?_
        have hT : mDepT V y t o = 1 := by unfold mDepT; (repeat' split) <;> omega
        refine gm_run X 1 (pc1 := 43) (ls1 := [_, _, _, _, _, _, _]) (st1 := [_]) rfl ?_
        refine gm_get X rfl fX4_80 (v := .int (iI 1)) rfl ?_
        refine gm_br X (pc1 := 51) (st1 := []) rfl (fun b9 => ?_) (fun b9 => ?_)
        · have c46 : (1 : Int) ≤ (0 : Int) := cLe b9 (by omega) (by omega)
          exact absurd c46 (by omega)
        · have c46 : (0 : Int) < (1 : Int) := cNe b9 (by omega) (by omega)
          refine gm_run X 1 (pc1 := 50) (ls1 := [_, _, _, _, _, _, _]) (st1 := [_]) rfl ?_
          exact gm_ret X hQ rfl rfl (by unfold mDep; rw [hT]; (repeat (first | rw [if_pos (by omega)] | rw [if_neg (by omega)])); all_goals (try rfl)) (by unfold mDep; rw [hT]; (repeat (first | rw [if_pos (by omega)] | rw [if_neg (by omega)])); all_goals (try rfl))
set_option maxHeartbeats 1000000 in
theorem mc_arrive (l : Launch) (EV : gEV) (am : Nat) (ad : Nat → Nat) {V : gV} {r : Int} (hr : inR r) {q : Int} (hq : inR q) (hI : mI V) (hA : ∀ k : Int, 0 ≤ r → r < V 25 0 → V 27 r.toNat = 0 → 0 ≤ k → k < V 28 r.toNat → 0 ≤ V 5 (V 29 (6 * r + k).toNat).toNat) : MC l yX4_arrive cX4_arrive 5 (some .int) 5 EV am ad [.int (iI r), .int (iI q)] V (some (.int (iI (mArr V r q).1))) ((mArr V r q).2) := by
  intro M0 hM0
  refine g_body tbX4_arrive tkX4_arrive (by decide) (by intro v hv; simp only [List.mem_cons, List.not_mem_nil, or_false] at hv; rcases hv with rfl | rfl | rfl <;> rfl) (Nat.le_of_ble_eq_true rfl) (fun z Q X hl hR hQ hE => ?_)
  subst hl
  have hs := mIs hI
  have loop : mArrT V r q = 0 → ((0 ≤ r ∧ r < V 25 0) ∧ (0 ≤ q ∧ q ≤ 4) ∧ V 27 r.toNat = 0 ∧ V 6 (5 * V 26 r.toNat + q).toNat + V 28 r.toNat ≤ 6) → ∀ (j k : Nat), (k : Int) + j = V 28 r.toNat → gMd z (cX4_arrive, yX4_arrive.cls, 5, (some .int), tbX4_arrive, yX4_arrive.name) EV Q M0 am ad (mAr (vS (vS V 0 0 0) 27 r.toNat 1) r q k) 106 [some (.ref am), some (.int (iI r)), some (.int (iI q)), some (.int (iI (k : Int))), none] [] := by
    intro hT hh j
    induction j with
    | zero =>
      intro k hk
      have b28 := mI28 hI (j := r) (by omega) (by omega)
      have b26 := mI26 hI (j := r) (by omega) (by omega)
      have e28 : (mAr (vS (vS V 0 0 0) 27 r.toNat 1) r q k) 28 r.toNat = V 28 r.toNat := mAr_k (by decide) k
      have e26 : (mAr (vS (vS V 0 0 0) 27 r.toNat 1) r q k) 26 r.toNat = V 26 r.toNat := mAr_k (by decide) k
      have b6 := mI6 hI (j := 5 * V 26 r.toNat + q) (by omega) (by omega)
      have e6 : (mAr (vS (vS V 0 0 0) 27 r.toNat 1) r q k) 6 (5 * V 26 r.toNat + q).toNat = V 6 (5 * V 26 r.toNat + q).toNat + k := mAr_6 (W := (vS (vS V 0 0 0) 27 r.toNat 1)) k
      refine gm_run X 2 (pc1 := 108) (ls1 := [_, _, _, _, _]) (st1 := [_, _]) rfl ?_
      refine gm_get X rfl fX4_74 (v := .ref (ad 28)) rfl ?_
      refine gm_run X 1 (pc1 := 112) (ls1 := [_, _, _, _, _]) (st1 := [_, _, _]) rfl ?_
      refine gm_ald X 28 (x := r) (v := ((mAr (vS (vS V 0 0 0) 27 r.toNat 1) r q k) 28 r.toNat)) rfl rfl (by decide) (by show (0:Int) ≤ r ∧ r < 40; omega) (rfl) ?_
      refine gm_br X (pc1 := 161) (st1 := []) rfl (fun b9 => ?_) (fun b9 => ?_)
      · have c113 : ((mAr (vS (vS V 0 0 0) 27 r.toNat 1) r q k) 28 r.toNat) ≤ (k : Int) := cLe b9 (by omega) (by omega)
        refine gm_run X 1 (pc1 := 162) (ls1 := [_, _, _, _, _]) (st1 := [_]) rfl ?_
        refine gm_get X rfl fX4_19 (v := .ref (ad 6)) rfl ?_
        refine gm_run X 2 (pc1 := 167) (ls1 := [_, _, _, _, _]) (st1 := [_, _, _]) rfl ?_
        refine gm_get X rfl fX4_68 (v := .ref (ad 26)) rfl ?_
        refine gm_run X 1 (pc1 := 171) (ls1 := [_, _, _, _, _]) (st1 := [_, _, _, _]) rfl ?_
        refine gm_ald X 26 (x := r) (v := ((mAr (vS (vS V 0 0 0) 27 r.toNat 1) r q k) 26 r.toNat)) rfl rfl (by decide) (by show (0:Int) ≤ r ∧ r < 40; omega) (rfl) ?_
        refine gm_run X 3 (pc1 := 175) (ls1 := [_, _, _, _, _]) (st1 := [_, _]) rfl ?_
        refine gm_eq (ls' := [some (.ref am), some (.int (iI r)), some (.int (iI q)), some (.int (iI (k : Int))), none]) (st' := [.int (iI ((5 * ((mAr (vS (vS V 0 0 0) 27 r.toNat 1) r q k) 26 r.toNat)) + q)), .ref (ad 6)]) (by simp only [iI_add, iI_sub, iI_mul, iI_neg]) (by simp only [iI_add, iI_sub, iI_mul, iI_neg]) ?_
        refine gm_ald X 6 (x := ((5 * ((mAr (vS (vS V 0 0 0) 27 r.toNat 1) r q k) 26 r.toNat)) + q)) (v := ((mAr (vS (vS V 0 0 0) 27 r.toNat 1) r q k) 6 ((5 * ((mAr (vS (vS V 0 0 0) 27 r.toNat 1) r q k) 26 r.toNat)) + q).toNat)) rfl rfl (by decide) (by show (0:Int) ≤ ((5 * ((mAr (vS (vS V 0 0 0) 27 r.toNat 1) r q k) 26 r.toNat)) + q) ∧ ((5 * ((mAr (vS (vS V 0 0 0) 27 r.toNat 1) r q k) 26 r.toNat)) + q) < 15; omega) (rfl) ?_
        have e9 : k = (V 28 r.toNat).toNat := by omega
        subst e9
        exact gm_ret X hQ rfl rfl (by unfold mArr; rw [hT]; rw [if_neg (by omega), e26]) (by unfold mArr; rw [hT]; (repeat (first | rw [if_pos (by omega)] | rw [if_neg (by omega)])); all_goals (try rfl))
      · have c113 : (k : Int) < ((mAr (vS (vS V 0 0 0) 27 r.toNat 1) r q k) 28 r.toNat) := cNe b9 (by omega) (by omega)
        exact absurd c113 (by omega)
    | succ j ih =>
      intro k hk
      have b28 := mI28 hI (j := r) (by omega) (by omega)
      have b26 := mI26 hI (j := r) (by omega) (by omega)
      have e28 : (mAr (vS (vS V 0 0 0) 27 r.toNat 1) r q k) 28 r.toNat = V 28 r.toNat := mAr_k (by decide) k
      have e26 : (mAr (vS (vS V 0 0 0) 27 r.toNat 1) r q k) 26 r.toNat = V 26 r.toNat := mAr_k (by decide) k
      have b6 := mI6 hI (j := 5 * V 26 r.toNat + q) (by omega) (by omega)
      have e6 : (mAr (vS (vS V 0 0 0) 27 r.toNat 1) r q k) 6 (5 * V 26 r.toNat + q).toNat = V 6 (5 * V 26 r.toNat + q).toNat + k := mAr_6 (W := (vS (vS V 0 0 0) 27 r.toNat 1)) k
      have b29 := mI29 hI (a := r) (k := (k : Int)) (by omega) (by omega) (by omega) (by omega)
      have e29 : (mAr (vS (vS V 0 0 0) 27 r.toNat 1) r q k) 29 (6 * r + (k : Int)).toNat = (V 29 (6 * r + (k : Int)).toNat) := mAr_k (by decide) k
      have b5 := mI5 hI (j := (V 29 (6 * r + (k : Int)).toNat)) (by omega) (by omega)
      have hb := hA (k : Int) (by omega) (by omega) (by omega) (by omega) (by omega)
      refine gm_run X 2 (pc1 := 108) (ls1 := [_, _, _, _, _]) (st1 := [_, _]) rfl ?_
      refine gm_get X rfl fX4_74 (v := .ref (ad 28)) rfl ?_
      refine gm_run X 1 (pc1 := 112) (ls1 := [_, _, _, _, _]) (st1 := [_, _, _]) rfl ?_
      refine gm_ald X 28 (x := r) (v := ((mAr (vS (vS V 0 0 0) 27 r.toNat 1) r q k) 28 r.toNat)) rfl rfl (by decide) (by show (0:Int) ≤ r ∧ r < 40; omega) (rfl) ?_
      refine gm_br X (pc1 := 161) (st1 := []) rfl (fun b9 => ?_) (fun b9 => ?_)
      · have c113 : ((mAr (vS (vS V 0 0 0) 27 r.toNat 1) r q k) 28 r.toNat) ≤ (k : Int) := cLe b9 (by omega) (by omega)
        exact absurd c113 (by omega)
      · have c113 : (k : Int) < ((mAr (vS (vS V 0 0 0) 27 r.toNat 1) r q k) 28 r.toNat) := cNe b9 (by omega) (by omega)
        refine gm_run X 1 (pc1 := 117) (ls1 := [_, _, _, _, _]) (st1 := [_]) rfl ?_
        refine gm_get X rfl fX4_77 (v := .ref (ad 29)) rfl ?_
        refine gm_run X 5 (pc1 := 126) (ls1 := [_, _, _, _, _]) (st1 := [_, _]) rfl ?_
        refine gm_eq (ls' := [some (.ref am), some (.int (iI r)), some (.int (iI q)), some (.int (iI (k : Int))), none]) (st' := [.int (iI ((6 * r) + (k : Int))), .ref (ad 29)]) (by simp only [iI_add, iI_sub, iI_mul, iI_neg]) (by simp only [iI_add, iI_sub, iI_mul, iI_neg]) ?_
        refine gm_ald X 29 (x := ((6 * r) + (k : Int))) (v := ((mAr (vS (vS V 0 0 0) 27 r.toNat 1) r q k) 29 ((6 * r) + (k : Int)).toNat)) rfl rfl (by decide) (by show (0:Int) ≤ ((6 * r) + (k : Int)) ∧ ((6 * r) + (k : Int)) < 240; omega) (rfl) ?_
        refine gm_run X 3 (pc1 := 131) (ls1 := [_, _, _, _, _]) (st1 := [_, _]) rfl ?_
        refine gm_get X rfl fX4_68 (v := .ref (ad 26)) rfl ?_
        refine gm_run X 1 (pc1 := 135) (ls1 := [_, _, _, _, _]) (st1 := [_, _, _]) rfl ?_
        refine gm_ald X 26 (x := r) (v := ((mAr (vS (vS V 0 0 0) 27 r.toNat 1) r q k) 26 r.toNat)) rfl rfl (by decide) (by show (0:Int) ≤ r ∧ r < 40; omega) (rfl) ?_
        refine gm_run X 2 (pc1 := 139) (ls1 := [_, _, _, _, _]) (st1 := [_, _, _, _]) rfl ?_
        refine gm_callV X rfl mX4_99 (mc_puts z.2.1 EV am ad (y := ((mAr (vS (vS V 0 0 0) 27 r.toNat 1) r q k) 26 r.toNat)) (t := q) (w := ((mAr (vS (vS V 0 0 0) 27 r.toNat 1) r q k) 29 ((6 * r) + (k : Int)).toNat)) (by omega) (by omega) (by omega) (by omega) (by omega) (by show 0 ≤ (mAr (vS (vS V 0 0 0) 27 r.toNat 1) r q k) 6 (5 * (mAr (vS (vS V 0 0 0) 27 r.toNat 1) r q k) 26 r.toNat + q).toNat ∧ (mAr (vS (vS V 0 0 0) 27 r.toNat 1) r q k) 6 (5 * (mAr (vS (vS V 0 0 0) 27 r.toNat 1) r q k) 26 r.toNat + q).toNat < 6; rw [e26]; omega)) rfl rfl (Nat.le_of_ble_eq_true rfl) (gFit.of hR (by decide) (by decide) (by decide)) ?_
        refine gm_eq (st' := []) rfl rfl ?_
        have p5 : (mPuts (mAr (vS (vS V 0 0 0) 27 r.toNat 1) r q k) ((mAr (vS (vS V 0 0 0) 27 r.toNat 1) r q k) 26 r.toNat) q ((mAr (vS (vS V 0 0 0) 27 r.toNat 1) r q k) 29 ((6 * r) + (k : Int)).toNat)) 5 ((mAr (vS (vS V 0 0 0) 27 r.toNat 1) r q k) 29 ((6 * r) + (k : Int)).toNat).toNat = V 5 (V 29 (6 * r + (k : Int)).toNat).toNat := by rw [mPuts_k (by decide), e29]; exact mAr_k (by decide) k
        refine gm_run X 1 (pc1 := 143) (ls1 := [_, _, _, _, _]) (st1 := [_]) rfl ?_
        refine gm_get X rfl fX4_47 (v := .ref (ad 18)) rfl ?_
        refine gm_run X 1 (pc1 := 147) (ls1 := [_, _, _, _, _]) (st1 := [_, _]) rfl ?_
        refine gm_get X rfl fX4_16 (v := .ref (ad 5)) rfl ?_
        refine gm_run X 1 (pc1 := 152) (ls1 := [_, _, _, _, _]) (st1 := [_, _, _]) rfl ?_
        refine gm_ald X 5 (x := ((mAr (vS (vS V 0 0 0) 27 r.toNat 1) r q k) 29 ((6 * r) + (k : Int)).toNat)) (v := ((mPuts (mAr (vS (vS V 0 0 0) 27 r.toNat 1) r q k) ((mAr (vS (vS V 0 0 0) 27 r.toNat 1) r q k) 26 r.toNat) q ((mAr (vS (vS V 0 0 0) 27 r.toNat 1) r q k) 29 ((6 * r) + (k : Int)).toNat)) 5 ((mAr (vS (vS V 0 0 0) 27 r.toNat 1) r q k) 29 ((6 * r) + (k : Int)).toNat).toNat)) rfl rfl (by decide) (by show (0:Int) ≤ ((mAr (vS (vS V 0 0 0) 27 r.toNat 1) r q k) 29 ((6 * r) + (k : Int)).toNat) ∧ ((mAr (vS (vS V 0 0 0) 27 r.toNat 1) r q k) 29 ((6 * r) + (k : Int)).toNat) < 30; omega) (rfl) ?_
        refine gm_run X 1 (pc1 := 154) (ls1 := [_, _, _, _, _]) (st1 := [_, _, _]) rfl ?_
        refine gm_ast X 18 (x := ((mPuts (mAr (vS (vS V 0 0 0) 27 r.toNat 1) r q k) ((mAr (vS (vS V 0 0 0) 27 r.toNat 1) r q k) 26 r.toNat) q ((mAr (vS (vS V 0 0 0) 27 r.toNat 1) r q k) 29 ((6 * r) + (k : Int)).toNat)) 5 ((mAr (vS (vS V 0 0 0) 27 r.toNat 1) r q k) 29 ((6 * r) + (k : Int)).toNat).toNat)) (v := 4) rfl rfl (by decide) (by show (0:Int) ≤ ((mPuts (mAr (vS (vS V 0 0 0) 27 r.toNat 1) r q k) ((mAr (vS (vS V 0 0 0) 27 r.toNat 1) r q k) 26 r.toNat) q ((mAr (vS (vS V 0 0 0) 27 r.toNat 1) r q k) 29 ((6 * r) + (k : Int)).toNat)) 5 ((mAr (vS (vS V 0 0 0) 27 r.toNat 1) r q k) 29 ((6 * r) + (k : Int)).toNat).toNat) ∧ ((mPuts (mAr (vS (vS V 0 0 0) 27 r.toNat 1) r q k) ((mAr (vS (vS V 0 0 0) 27 r.toNat 1) r q k) 26 r.toNat) q ((mAr (vS (vS V 0 0 0) 27 r.toNat 1) r q k) 29 ((6 * r) + (k : Int)).toNat)) 5 ((mAr (vS (vS V 0 0 0) 27 r.toNat 1) r q k) 29 ((6 * r) + (k : Int)).toNat).toNat) < 40; omega) ?_
        refine gm_run X 2 (pc1 := 106) (ls1 := [_, _, _, _, _]) (st1 := []) rfl ?_
        refine gm_eq (ls' := [some (.ref am), some (.int (iI r)), some (.int (iI q)), some (.int (iI ((k : Int) + 1))), some (.int (iI ((mAr (vS (vS V 0 0 0) 27 r.toNat 1) r q k) 29 ((6 * r) + (k : Int)).toNat)))]) (st' := []) (by simp only [iI_add, iI_sub, iI_mul, iI_neg]) (by simp only [iI_add, iI_sub, iI_mul, iI_neg]) ?_
        have e : mAr (vS (vS V 0 0 0) 27 r.toNat 1) r q (k + 1) = (vS (mPuts (mAr (vS (vS V 0 0 0) 27 r.toNat 1) r q k) ((mAr (vS (vS V 0 0 0) 27 r.toNat 1) r q k) 26 r.toNat) q ((mAr (vS (vS V 0 0 0) 27 r.toNat 1) r q k) 29 ((6 * r) + (k : Int)).toNat)) 18 ((mPuts (mAr (vS (vS V 0 0 0) 27 r.toNat 1) r q k) ((mAr (vS (vS V 0 0 0) 27 r.toNat 1) r q k) 26 r.toNat) q ((mAr (vS (vS V 0 0 0) 27 r.toNat 1) r q k) 29 ((6 * r) + (k : Int)).toNat)) 5 ((mAr (vS (vS V 0 0 0) 27 r.toNat 1) r q k) 29 ((6 * r) + (k : Int)).toNat).toNat).toNat 4) := rfl
        have h9 := ih (k + 1) (by omega)
        rw [e] at h9
        exact gm_forget [true, true, true, true, false] rfl h9
  refine (?_ : gMd z _ EV Q M0 am ad V 0 [some (.ref am), some (.int (iI r)), some (.int (iI q)), none, none] []) M0 hM0 gFr.rf
  refine gm_run X 4 (pc1 := 4) (ls1 := [_, _, _, _, _]) (st1 := [_, _, _, _]) rfl ?_
  refine gm_get X rfl fX4_183 (v := .int (iI (V 25 0))) rfl ?_
  refine gm_run X 2 (pc1 := 9) (ls1 := [_, _, _, _, _]) (st1 := [_, _, _, _]) rfl ?_
  refine gm_eq (ls' := [some (.ref am), some (.int (iI r)), some (.int (iI q)), none, none]) (st' := [.int (iI ((V 25 0) - 1)), .int (iI 0), .int (iI r), .ref am]) (by simp only [iI_add, iI_sub, iI_mul, iI_neg]) (by simp only [iI_add, iI_sub, iI_mul, iI_neg]) ?_
  refine gm_callS X rfl mX4_84 (fun M => mc_in z.2.1 EV M (v := r) (lo := 0) (hi := ((V 25 0) - 1)) (by omega) (by omega) (by omega)) rfl rfl (Nat.le_of_ble_eq_true rfl) (gFit.of hR (by decide) (by decide) (by decide)) ?_
  refine gm_eq (st' := [.int (iI (bI (0 ≤ r ∧ r ≤ ((V 25 0) - 1)))), .ref am]) rfl rfl ?_
  refine gm_br X (pc1 := 19) (st1 := [_]) rfl (fun b9 => ?_) (fun b9 => ?_)
  · have c12 : 0 ≤ r ∧ r ≤ ((V 25 0) - 1) := bI_t b9
    refine gm_run X 3 (pc1 := 22) (ls1 := [_, _, _, _, _]) (st1 := [_, _, _, _]) rfl ?_
    refine gm_callS X rfl mX4_84 (fun M => mc_in z.2.1 EV M (v := q) (lo := 0) (hi := 4) (by omega) (by omega) (by omega)) rfl rfl (Nat.le_of_ble_eq_true rfl) (gFit.of hR (by decide) (by decide) (by decide)) ?_
    refine gm_eq (st' := [.int (iI (bI (0 ≤ q ∧ q ≤ 4))), .ref am]) rfl rfl ?_
    refine gm_br X (pc1 := 32) (st1 := [_]) rfl (fun b9 => ?_) (fun b9 => ?_)
    · have c25 : 0 ≤ q ∧ q ≤ 4 := bI_t b9
      refine gm_run X 1 (pc1 := 33) (ls1 := [_, _, _, _, _]) (st1 := [_, _]) rfl ?_
      refine gm_put X (v := 0) rfl fX4_80 (by decide) rfl mSet0 ?_
      refine gm_run X 1 (pc1 := 37) (ls1 := [_, _, _, _, _]) (st1 := [_]) rfl ?_
      refine gm_get X rfl fX4_80 (v := .int (iI 0)) rfl ?_
      refine gm_br X (pc1 := 88) (st1 := []) rfl (fun b9 => ?_) (fun b9 => ?_)
      · have c40 : ¬ (0 : Int) = (0 : Int) := cNq b9 (by omega) (by omega)
        exact absurd c40 (by omega)
      · have c40 : (0 : Int) = (0 : Int) := cEq b9 (by omega) (by omega)
        refine gm_run X 2 (pc1 := 45) (ls1 := [_, _, _, _, _]) (st1 := [_, _]) rfl ?_
        refine gm_get X rfl fX4_71 (v := .ref (ad 27)) rfl ?_
        refine gm_run X 1 (pc1 := 49) (ls1 := [_, _, _, _, _]) (st1 := [_, _, _]) rfl ?_
        refine gm_zald X 27 (x := r) (v := (V 27 r.toNat)) rfl rfl (by decide) (by show (0:Int) ≤ r ∧ r < 40; omega) (rfl) ?_
        have b49 := mI27 hI (j := r) (by omega) (by omega)
        refine gm_br X (pc1 := 80) (st1 := [_]) rfl (fun b9 => ?_) (fun b9 => ?_)
        · have c50 : ¬ (V 27 r.toNat) = 0 := cNq b9 (by omega) (by omega)
          refine gm_run X 2 (pc1 := 85) (ls1 := [_, _, _, _, _]) (st1 := [_, _]) rfl ?_
          refine gm_put X (v := 3) rfl fX4_80 (by decide) rfl mSet0 ?_
          have hT : mArrT V r q = 3 := by unfold mArrT; (repeat' split) <;> omega
          refine gm_run X 1 (pc1 := 89) (ls1 := [_, _, _, _, _]) (st1 := [_]) rfl ?_
          refine gm_get X rfl fX4_80 (v := .int (iI 3)) rfl ?_
          refine gm_br X (pc1 := 97) (st1 := []) rfl (fun b9 => ?_) (fun b9 => ?_)
          · have c92 : (3 : Int) ≤ (0 : Int) := cLe b9 (by omega) (by omega)
            exact absurd c92 (by omega)
          · have c92 : (0 : Int) < (3 : Int) := cNe b9 (by omega) (by omega)
            refine gm_run X 1 (pc1 := 96) (ls1 := [_, _, _, _, _]) (st1 := [_]) rfl ?_
            exact gm_ret X hQ rfl rfl (by (try simp only [vS_vS]); unfold mArr; rw [hT]; (repeat (first | rw [if_pos (by omega)] | rw [if_neg (by omega)])); all_goals (try rfl)) (by (try simp only [vS_vS]); unfold mArr; rw [hT]; (repeat (first | rw [if_pos (by omega)] | rw [if_neg (by omega)])); all_goals (try rfl))
        · have c50 : (V 27 r.toNat) = 0 := cEq b9 (by omega) (by omega)
          refine gm_run X 1 (pc1 := 54) (ls1 := [_, _, _, _, _]) (st1 := [_, _]) rfl ?_
          refine gm_get X rfl fX4_19 (v := .ref (ad 6)) rfl ?_
          refine gm_run X 2 (pc1 := 59) (ls1 := [_, _, _, _, _]) (st1 := [_, _, _, _]) rfl ?_
          refine gm_get X rfl fX4_68 (v := .ref (ad 26)) rfl ?_
          refine gm_run X 1 (pc1 := 63) (ls1 := [_, _, _, _, _]) (st1 := [_, _, _, _, _]) rfl ?_
          refine gm_ald X 26 (x := r) (v := (V 26 r.toNat)) rfl rfl (by decide) (by show (0:Int) ≤ r ∧ r < 40; omega) (rfl) ?_
          have b63 := mI26 hI (j := r) (by omega) (by omega)
          refine gm_run X 3 (pc1 := 67) (ls1 := [_, _, _, _, _]) (st1 := [_, _, _]) rfl ?_
          refine gm_eq (ls' := [some (.ref am), some (.int (iI r)), some (.int (iI q)), none, none]) (st' := [.int (iI ((5 * (V 26 r.toNat)) + q)), .ref (ad 6), .ref am]) (by simp only [iI_add, iI_sub, iI_mul, iI_neg]) (by simp only [iI_add, iI_sub, iI_mul, iI_neg]) ?_
          refine gm_ald X 6 (x := ((5 * (V 26 r.toNat)) + q)) (v := (V 6 ((5 * (V 26 r.toNat)) + q).toNat)) rfl rfl (by decide) (by show (0:Int) ≤ ((5 * (V 26 r.toNat)) + q) ∧ ((5 * (V 26 r.toNat)) + q) < 15; omega) (rfl) ?_
          have b67 := mI6 hI (j := ((5 * (V 26 r.toNat)) + q)) (by omega) (by omega)
          refine gm_run X 1 (pc1 := 69) (ls1 := [_, _, _, _, _]) (st1 := [_, _, _]) rfl ?_
          refine gm_get X rfl fX4_74 (v := .ref (ad 28)) rfl ?_
          refine gm_run X 1 (pc1 := 73) (ls1 := [_, _, _, _, _]) (st1 := [_, _, _, _]) rfl ?_
          refine gm_ald X 28 (x := r) (v := (V 28 r.toNat)) rfl rfl (by decide) (by show (0:Int) ≤ r ∧ r < 40; omega) (rfl) ?_
          have b73 := mI28 hI (j := r) (by omega) (by omega)
          refine gm_run X 2 (pc1 := 77) (ls1 := [_, _, _, _, _]) (st1 := [_, _, _]) rfl ?_
          refine gm_eq (ls' := [some (.ref am), some (.int (iI r)), some (.int (iI q)), none, none]) (st' := [.int (iI 6), .int (iI ((V 6 ((5 * (V 26 r.toNat)) + q).toNat) + (V 28 r.toNat))), .ref am]) (by simp only [iI_add, iI_sub, iI_mul, iI_neg]) (by simp only [iI_add, iI_sub, iI_mul, iI_neg]) ?_
          refine gm_br X (pc1 := 84) (st1 := [_]) rfl (fun b9 => ?_) (fun b9 => ?_)
          · have c77 : ((V 6 ((5 * (V 26 r.toNat)) + q).toNat) + (V 28 r.toNat)) ≤ 6 := cLe b9 (by omega) (by omega)
            refine gm_run X 1 (pc1 := 85) (ls1 := [_, _, _, _, _]) (st1 := [_, _]) rfl ?_
            refine gm_put X (v := 0) rfl fX4_80 (by decide) rfl mSet0 ?_
            have hT : mArrT V r q = 0 := by unfold mArrT; (repeat' split) <;> omega
            refine gm_run X 1 (pc1 := 89) (ls1 := [_, _, _, _, _]) (st1 := [_]) rfl ?_
            refine gm_get X rfl fX4_80 (v := .int (iI 0)) rfl ?_
            refine gm_br X (pc1 := 97) (st1 := []) rfl (fun b9 => ?_) (fun b9 => ?_)
            · have c92 : (0 : Int) ≤ (0 : Int) := cLe b9 (by omega) (by omega)
              refine gm_run X 1 (pc1 := 98) (ls1 := [_, _, _, _, _]) (st1 := [_]) rfl ?_
              refine gm_get X rfl fX4_71 (v := .ref (ad 27)) rfl ?_
              refine gm_run X 2 (pc1 := 103) (ls1 := [_, _, _, _, _]) (st1 := [_, _, _]) rfl ?_
              refine gm_zast X 27 (x := r) (v := 1) rfl rfl (by decide) (by show (0:Int) ≤ r ∧ r < 40; omega) (by omega) ?_
              refine gm_run X 2 (pc1 := 106) (ls1 := [_, _, _, _, _]) (st1 := []) rfl ?_
              simp only [vS_vS]
              have b28 := mI28 hI (j := r) (by omega) (by omega)
              exact loop hT (by omega) (V 28 r.toNat).toNat 0 (by omega)
            · have c92 : (0 : Int) < (0 : Int) := cNe b9 (by omega) (by omega)
              exact absurd c92 (by omega)
          · have c77 : 6 < ((V 6 ((5 * (V 26 r.toNat)) + q).toNat) + (V 28 r.toNat)) := cNe b9 (by omega) (by omega)
            refine gm_run X 2 (pc1 := 85) (ls1 := [_, _, _, _, _]) (st1 := [_, _]) rfl ?_
            refine gm_put X (v := 3) rfl fX4_80 (by decide) rfl mSet0 ?_
            have hT : mArrT V r q = 3 := by unfold mArrT; (repeat' split) <;> omega
            refine gm_run X 1 (pc1 := 89) (ls1 := [_, _, _, _, _]) (st1 := [_]) rfl ?_
            refine gm_get X rfl fX4_80 (v := .int (iI 3)) rfl ?_
            refine gm_br X (pc1 := 97) (st1 := []) rfl (fun b9 => ?_) (fun b9 => ?_)
            · have c92 : (3 : Int) ≤ (0 : Int) := cLe b9 (by omega) (by omega)
              exact absurd c92 (by omega)
            · have c92 : (0 : Int) < (3 : Int) := cNe b9 (by omega) (by omega)
              refine gm_run X 1 (pc1 := 96) (ls1 := [_, _, _, _, _]) (st1 := [_]) rfl ?_
              exact gm_ret X hQ rfl rfl (by (try simp only [vS_vS]); unfold mArr; rw [hT]; (repeat (first | rw [if_pos (by omega)] | rw [if_neg (by omega)])); all_goals (try rfl)) (by (try simp only [vS_vS]); unfold mArr; rw [hT]; (repeat (first | rw [if_pos (by omega)] | rw [if_neg (by omega)])); all_goals (try rfl))
    · have c25 : ¬ (0 ≤ q ∧ q ≤ 4) := bI_f b9
      refine gm_run X 2 (pc1 := 33) (ls1 := [_, _, _, _, _]) (st1 := [_, _]) rfl ?_
      refine gm_put X (v := 2) rfl fX4_80 (by decide) rfl mSet0 ?_
      have hT : mArrT V r q = 2 := by unfold mArrT; (repeat' split) <;> omega
      refine gm_run X 1 (pc1 := 37) (ls1 := [_, _, _, _, _]) (st1 := [_]) rfl ?_
      refine gm_get X rfl fX4_80 (v := .int (iI 2)) rfl ?_
      refine gm_br X (pc1 := 88) (st1 := []) rfl (fun b9 => ?_) (fun b9 => ?_)
      · have c40 : ¬ (2 : Int) = (0 : Int) := cNq b9 (by omega) (by omega)
        refine gm_run X 1 (pc1 := 89) (ls1 := [_, _, _, _, _]) (st1 := [_]) rfl ?_
        refine gm_get X rfl fX4_80 (v := .int (iI 2)) rfl ?_
        refine gm_br X (pc1 := 97) (st1 := []) rfl (fun b9 => ?_) (fun b9 => ?_)
        · have c92 : (2 : Int) ≤ (0 : Int) := cLe b9 (by omega) (by omega)
          exact absurd c92 (by omega)
        · have c92 : (0 : Int) < (2 : Int) := cNe b9 (by omega) (by omega)
          refine gm_run X 1 (pc1 := 96) (ls1 := [_, _, _, _, _]) (st1 := [_]) rfl ?_
          exact gm_ret X hQ rfl rfl (by (try simp only [vS_vS]); unfold mArr; rw [hT]; (repeat (first | rw [if_pos (by omega)] | rw [if_neg (by omega)])); all_goals (try rfl)) (by (try simp only [vS_vS]); unfold mArr; rw [hT]; (repeat (first | rw [if_pos (by omega)] | rw [if_neg (by omega)])); all_goals (try rfl))
      · have c40 : (2 : Int) = (0 : Int) := cEq b9 (by omega) (by omega)
        exact absurd c40 (by omega)
  · have c12 : ¬ (0 ≤ r ∧ r ≤ ((V 25 0) - 1)) := bI_f b9
    refine gm_run X 2 (pc1 := 33) (ls1 := [_, _, _, _, _]) (st1 := [_, _]) rfl ?_
    refine gm_put X (v := 1) rfl fX4_80 (by decide) rfl mSet0 ?_
    have hT : mArrT V r q = 1 := by unfold mArrT; (repeat' split) <;> omega
    refine gm_run X 1 (pc1 := 37) (ls1 := [_, _, _, _, _]) (st1 := [_]) rfl ?_
    refine gm_get X rfl fX4_80 (v := .int (iI 1)) rfl ?_
    refine gm_br X (pc1 := 88) (st1 := []) rfl (fun b9 => ?_) (fun b9 => ?_)
    · have c40 : ¬ (1 : Int) = (0 : Int) := cNq b9 (by omega) (by omega)
      refine gm_run X 1 (pc1 := 89) (ls1 := [_, _, _, _, _]) (st1 := [_]) rfl ?_
      refine gm_get X rfl fX4_80 (v := .int (iI 1)) rfl ?_
      refine gm_br X (pc1 := 97) (st1 := []) rfl (fun b9 => ?_) (fun b9 => ?_)
      · have c92 : (1 : Int) ≤ (0 : Int) := cLe b9 (by omega) (by omega)
        exact absurd c92 (by omega)
      · have c92 : (0 : Int) < (1 : Int) := cNe b9 (by omega) (by omega)
        refine gm_run X 1 (pc1 := 96) (ls1 := [_, _, _, _, _]) (st1 := [_]) rfl ?_
        exact gm_ret X hQ rfl rfl (by (try simp only [vS_vS]); unfold mArr; rw [hT]; (repeat (first | rw [if_pos (by omega)] | rw [if_neg (by omega)])); all_goals (try rfl)) (by (try simp only [vS_vS]); unfold mArr; rw [hT]; (repeat (first | rw [if_pos (by omega)] | rw [if_neg (by omega)])); all_goals (try rfl))
    · have c40 : (1 : Int) = (0 : Int) := cEq b9 (by omega) (by omega)
      exact absurd c40 (by omega)
set_option maxHeartbeats 1000000 in
theorem mc_shunt (l : Launch) (EV : gEV) (am : Nat) (ad : Nat → Nat) {V : gV} {y : Int} (hy : inR y) {f : Int} (hf : inR f) {t : Int} (ht : inR t) {n : Int} (hn : inR n) (hI : mI V) : MC l yX4_shunt cX4_shunt 8 (some .int) 5 EV am ad [.int (iI y), .int (iI f), .int (iI t), .int (iI n)] V (some (.int (iI (mShu V y f t n).1))) ((mShu V y f t n).2) := by
  intro M0 hM0
  refine g_body tbX4_shunt tkX4_shunt (by decide) (by intro v hv; simp only [List.mem_cons, List.not_mem_nil, or_false] at hv; rcases hv with rfl | rfl | rfl | rfl | rfl <;> rfl) (Nat.le_of_ble_eq_true rfl) (fun z Q X hl hR hQ hE => ?_)
  subst hl
  have hs := mIs hI
  have loop : mShT V y f t n = 0 → (isTrk y f ∧ isTrk y t ∧ ¬ f = t ∧ (1 ≤ n ∧ n ≤ 6) ∧ n ≤ V 6 (5 * y + f).toNat ∧ V 6 (5 * y + t).toNat + n ≤ 6) → ∀ (j k : Nat), (k : Int) + j = n → gMd z (cX4_shunt, yX4_shunt.cls, 8, (some .int), tbX4_shunt, yX4_shunt.name) EV Q M0 am ad (mSh (vS (vS V 0 0 0) 6 (5 * y + f).toNat (V 6 (5 * y + f).toNat - n)) y f t k) 121 [some (.ref am), some (.int (iI y)), some (.int (iI f)), some (.int (iI t)), some (.int (iI n)), some (.int (iI 1)), some (.int (iI (5 * y + f))), some (.int (iI (k : Int)))] [] := by
    intro hT hh j
    induction j with
    | zero =>
      intro k hk
      have b6 := mI6 hI (j := 5 * y + f) (by omega) (by omega)
      have d6 := mI6 hI (j := 5 * y + t) (by omega) (by omega)
      have w6 : (vS (vS V 0 0 0) 6 (5 * y + f).toNat (V 6 (5 * y + f).toNat - n)) 6 (5 * y + t).toNat = V 6 (5 * y + t).toNat := by rw [vS_i (by omega)]; rfl
      have e6 : (mSh (vS (vS V 0 0 0) 6 (5 * y + f).toNat (V 6 (5 * y + f).toNat - n)) y f t k) 6 (5 * y + t).toNat = V 6 (5 * y + t).toNat + k := by rw [mSh_6, w6]
      have f6 : (mSh (vS (vS V 0 0 0) 6 (5 * y + f).toNat (V 6 (5 * y + f).toNat - n)) y f t k) 6 (5 * y + f).toNat = V 6 (5 * y + f).toNat - n := by rw [mSh_6n (by omega), vS_s]
      refine gm_run X 2 (pc1 := 125) (ls1 := [_, _, _, _, _, _, _, _]) (st1 := [_, _]) rfl ?_
      refine gm_br X (pc1 := 161) (st1 := []) rfl (fun b9 => ?_) (fun b9 => ?_)
      · have c125 : n ≤ (k : Int) := cLe b9 (by omega) (by omega)
        refine gm_run X 1 (pc1 := 162) (ls1 := [_, _, _, _, _, _, _, _]) (st1 := [_]) rfl ?_
        refine gm_get X rfl fX4_19 (v := .ref (ad 6)) rfl ?_
        refine gm_run X 5 (pc1 := 170) (ls1 := [_, _, _, _, _, _, _, _]) (st1 := [_, _]) rfl ?_
        refine gm_eq (ls' := [some (.ref am), some (.int (iI y)), some (.int (iI f)), some (.int (iI t)), some (.int (iI n)), some (.int (iI 1)), some (.int (iI (5 * y + f))), some (.int (iI (k : Int)))]) (st' := [.int (iI ((5 * y) + t)), .ref (ad 6)]) (by simp only [iI_add, iI_sub, iI_mul, iI_neg]) (by simp only [iI_add, iI_sub, iI_mul, iI_neg]) ?_
        refine gm_ald X 6 (x := ((5 * y) + t)) (v := ((mSh (vS (vS V 0 0 0) 6 (5 * y + f).toNat (V 6 (5 * y + f).toNat - n)) y f t k) 6 ((5 * y) + t).toNat)) rfl rfl (by decide) (by show (0:Int) ≤ ((5 * y) + t) ∧ ((5 * y) + t) < 15; omega) (rfl) ?_
        have e9 : k = n.toNat := by omega
        subst e9
        exact gm_ret X hQ rfl rfl (by unfold mShu; rw [hT]; (repeat (first | rw [if_pos (by omega)] | rw [if_neg (by omega)])); all_goals (try rfl)) (by unfold mShu; rw [hT]; (repeat (first | rw [if_pos (by omega)] | rw [if_neg (by omega)])); all_goals (try rfl))
      · have c125 : (k : Int) < n := cNe b9 (by omega) (by omega)
        exact absurd c125 (by omega)
    | succ j ih =>
      intro k hk
      have b6 := mI6 hI (j := 5 * y + f) (by omega) (by omega)
      have d6 := mI6 hI (j := 5 * y + t) (by omega) (by omega)
      have w6 : (vS (vS V 0 0 0) 6 (5 * y + f).toNat (V 6 (5 * y + f).toNat - n)) 6 (5 * y + t).toNat = V 6 (5 * y + t).toNat := by rw [vS_i (by omega)]; rfl
      have e6 : (mSh (vS (vS V 0 0 0) 6 (5 * y + f).toNat (V 6 (5 * y + f).toNat - n)) y f t k) 6 (5 * y + t).toNat = V 6 (5 * y + t).toNat + k := by rw [mSh_6, w6]
      have f6 : (mSh (vS (vS V 0 0 0) 6 (5 * y + f).toNat (V 6 (5 * y + f).toNat - n)) y f t k) 6 (5 * y + f).toNat = V 6 (5 * y + f).toNat - n := by rw [mSh_6n (by omega), vS_s]
      have b7 := mI7 hI (a := 5 * y + f) (k := V 6 (5 * y + f).toNat - n + (k : Int)) (by omega) (by omega) (by omega) (by omega)
      rw [show 6 * (5 * y + f) + (V 6 (5 * y + f).toNat - n + (k : Int)) = 6 * (5 * y + f) + (V 6 (5 * y + f).toNat - n) + (k : Int) by omega] at b7
      have e7 : (mSh (vS (vS V 0 0 0) 6 (5 * y + f).toNat (V 6 (5 * y + f).toNat - n)) y f t k) 7 (6 * (5 * y + f) + (mSh (vS (vS V 0 0 0) 6 (5 * y + f).toNat (V 6 (5 * y + f).toNat - n)) y f t k) 6 (5 * y + f).toNat + (k : Int)).toNat = V 7 (6 * (5 * y + f) + (V 6 (5 * y + f).toNat - n) + (k : Int)).toNat := by
        rw [f6, mSh_7n (by omega) (by rw [w6]; omega)]
        · rfl
        · intro j hj; rw [w6]; omega
      refine gm_run X 2 (pc1 := 125) (ls1 := [_, _, _, _, _, _, _, _]) (st1 := [_, _]) rfl ?_
      refine gm_br X (pc1 := 161) (st1 := []) rfl (fun b9 => ?_) (fun b9 => ?_)
      · have c125 : n ≤ (k : Int) := cLe b9 (by omega) (by omega)
        exact absurd c125 (by omega)
      · have c125 : (k : Int) < n := cNe b9 (by omega) (by omega)
        refine gm_run X 4 (pc1 := 132) (ls1 := [_, _, _, _, _, _, _, _]) (st1 := [_, _, _, _]) rfl ?_
        refine gm_get X rfl fX4_22 (v := .ref (ad 7)) rfl ?_
        refine gm_run X 4 (pc1 := 141) (ls1 := [_, _, _, _, _, _, _, _]) (st1 := [_, _, _, _, _, _]) rfl ?_
        refine gm_eq (ls' := [some (.ref am), some (.int (iI y)), some (.int (iI f)), some (.int (iI t)), some (.int (iI n)), some (.int (iI 1)), some (.int (iI (5 * y + f))), some (.int (iI (k : Int)))]) (st' := [.ref am, .int (iI (6 * (5 * y + f))), .ref (ad 7), .int (iI t), .int (iI y), .ref am]) (by simp only [iI_add, iI_sub, iI_mul, iI_neg]) (by simp only [iI_add, iI_sub, iI_mul, iI_neg]) ?_
        refine gm_get X rfl fX4_19 (v := .ref (ad 6)) rfl ?_
        refine gm_run X 1 (pc1 := 146) (ls1 := [_, _, _, _, _, _, _, _]) (st1 := [_, _, _, _, _, _, _]) rfl ?_
        refine gm_ald X 6 (x := (5 * y + f)) (v := ((mSh (vS (vS V 0 0 0) 6 (5 * y + f).toNat (V 6 (5 * y + f).toNat - n)) y f t k) 6 (5 * y + f).toNat)) rfl rfl (by decide) (by show (0:Int) ≤ (5 * y + f) ∧ (5 * y + f) < 15; omega) (rfl) ?_
        refine gm_run X 3 (pc1 := 151) (ls1 := [_, _, _, _, _, _, _, _]) (st1 := [_, _, _, _, _]) rfl ?_
        refine gm_eq (ls' := [some (.ref am), some (.int (iI y)), some (.int (iI f)), some (.int (iI t)), some (.int (iI n)), some (.int (iI 1)), some (.int (iI (5 * y + f))), some (.int (iI (k : Int)))]) (st' := [.int (iI (((6 * (5 * y + f)) + ((mSh (vS (vS V 0 0 0) 6 (5 * y + f).toNat (V 6 (5 * y + f).toNat - n)) y f t k) 6 (5 * y + f).toNat)) + (k : Int))), .ref (ad 7), .int (iI t), .int (iI y), .ref am]) (by simp only [iI_add, iI_sub, iI_mul, iI_neg]) (by simp only [iI_add, iI_sub, iI_mul, iI_neg]) ?_
        refine gm_ald X 7 (x := (((6 * (5 * y + f)) + ((mSh (vS (vS V 0 0 0) 6 (5 * y + f).toNat (V 6 (5 * y + f).toNat - n)) y f t k) 6 (5 * y + f).toNat)) + (k : Int))) (v := ((mSh (vS (vS V 0 0 0) 6 (5 * y + f).toNat (V 6 (5 * y + f).toNat - n)) y f t k) 7 (((6 * (5 * y + f)) + ((mSh (vS (vS V 0 0 0) 6 (5 * y + f).toNat (V 6 (5 * y + f).toNat - n)) y f t k) 6 (5 * y + f).toNat)) + (k : Int)).toNat)) rfl rfl (by decide) (by show (0:Int) ≤ (((6 * (5 * y + f)) + ((mSh (vS (vS V 0 0 0) 6 (5 * y + f).toNat (V 6 (5 * y + f).toNat - n)) y f t k) 6 (5 * y + f).toNat)) + (k : Int)) ∧ (((6 * (5 * y + f)) + ((mSh (vS (vS V 0 0 0) 6 (5 * y + f).toNat (V 6 (5 * y + f).toNat - n)) y f t k) 6 (5 * y + f).toNat)) + (k : Int)) < 90; omega) (rfl) ?_
        refine gm_callV X rfl mX4_99 (mc_puts z.2.1 EV am ad (y := y) (t := t) (w := ((mSh (vS (vS V 0 0 0) 6 (5 * y + f).toNat (V 6 (5 * y + f).toNat - n)) y f t k) 7 (((6 * (5 * y + f)) + ((mSh (vS (vS V 0 0 0) 6 (5 * y + f).toNat (V 6 (5 * y + f).toNat - n)) y f t k) 6 (5 * y + f).toNat)) + (k : Int)).toNat)) (by omega) (by omega) (by omega) (by omega) (by omega) (by show 0 ≤ (mSh (vS (vS V 0 0 0) 6 (5 * y + f).toNat (V 6 (5 * y + f).toNat - n)) y f t k) 6 (5 * y + t).toNat ∧ (mSh (vS (vS V 0 0 0) 6 (5 * y + f).toNat (V 6 (5 * y + f).toNat - n)) y f t k) 6 (5 * y + t).toNat < 6; omega)) rfl rfl (Nat.le_of_ble_eq_true rfl) (gFit.of hR (by decide) (by decide) (by decide)) ?_
        refine gm_eq (st' := []) rfl rfl ?_
        refine gm_run X 2 (pc1 := 121) (ls1 := [_, _, _, _, _, _, _, _]) (st1 := []) rfl ?_
        refine gm_eq (ls' := [some (.ref am), some (.int (iI y)), some (.int (iI f)), some (.int (iI t)), some (.int (iI n)), some (.int (iI 1)), some (.int (iI (5 * y + f))), some (.int (iI ((k : Int) + 1)))]) (st' := []) (by simp only [iI_add, iI_sub, iI_mul, iI_neg]) (by simp only [iI_add, iI_sub, iI_mul, iI_neg]) ?_
        have e : mSh (vS (vS V 0 0 0) 6 (5 * y + f).toNat (V 6 (5 * y + f).toNat - n)) y f t (k + 1) = (mPuts (mSh (vS (vS V 0 0 0) 6 (5 * y + f).toNat (V 6 (5 * y + f).toNat - n)) y f t k) y t ((mSh (vS (vS V 0 0 0) 6 (5 * y + f).toNat (V 6 (5 * y + f).toNat - n)) y f t k) 7 (((6 * (5 * y + f)) + ((mSh (vS (vS V 0 0 0) 6 (5 * y + f).toNat (V 6 (5 * y + f).toNat - n)) y f t k) 6 (5 * y + f).toNat)) + (k : Int)).toNat)) := rfl
        have h9 := ih (k + 1) (by omega)
        rw [e] at h9
        exact h9
  refine (?_ : gMd z _ EV Q M0 am ad V 0 [some (.ref am), some (.int (iI y)), some (.int (iI f)), some (.int (iI t)), some (.int (iI n)), none, none, none] []) M0 hM0 gFr.rf
  refine gm_run X 2 (pc1 := 2) (ls1 := [_, _, _, _, _, _, _, _]) (st1 := [_, _]) rfl ?_
  refine gm_callS X rfl mX4_95 (fun M => mc_isTrack z.2.1 EV M (y := y) (t := f) (by omega) (by omega)) rfl rfl (Nat.le_of_ble_eq_true rfl) (gFit.of hR (by decide) (by decide) (by decide)) ?_
  refine gm_eq (st' := [.int (iI (bI (isTrk y f)))]) rfl rfl ?_
  refine gm_br X (pc1 := 36) (st1 := []) rfl (fun b9 => ?_) (fun b9 => ?_)
  · have c5 : ¬ (isTrk y f) := bI_f b9
    refine gm_run X 4 (pc1 := 42) (ls1 := [_, _, _, _, _, _, _, _]) (st1 := [_, _]) rfl ?_
    refine gm_br X (pc1 := 49) (st1 := [_]) rfl (fun b9 => ?_) (fun b9 => ?_)
    · have c42 : ¬ (0 : Int) = (0 : Int) := cNq b9 (by omega) (by omega)
      exact absurd c42 (by omega)
    · have c42 : (0 : Int) = (0 : Int) := cEq b9 (by omega) (by omega)
      refine gm_run X 2 (pc1 := 87) (ls1 := [_, _, _, _, _, _, _, _]) (st1 := [_, _]) rfl ?_
      refine gm_put X (v := 1) rfl fX4_80 (by decide) rfl mSet0 ?_
      have hT : mShT V y f t n = 1 := by unfold mShT; (repeat' split) <;> omega
      refine gm_run X 1 (pc1 := 91) (ls1 := [_, _, _, _, _, _, _, _]) (st1 := [_]) rfl ?_
      refine gm_get X rfl fX4_80 (v := .int (iI 1)) rfl ?_
      refine gm_br X (pc1 := 99) (st1 := []) rfl (fun b9 => ?_) (fun b9 => ?_)
      · have c94 : (1 : Int) ≤ (0 : Int) := cLe b9 (by omega) (by omega)
        exact absurd c94 (by omega)
      · have c94 : (0 : Int) < (1 : Int) := cNe b9 (by omega) (by omega)
        refine gm_run X 1 (pc1 := 98) (ls1 := [_, _, _, _, _, _, _, _]) (st1 := [_]) rfl ?_
        exact gm_ret X hQ rfl rfl (by unfold mShu; rw [hT]; (repeat (first | rw [if_pos (by omega)] | rw [if_neg (by omega)])); all_goals (try rfl)) (by unfold mShu; rw [hT]; (repeat (first | rw [if_pos (by omega)] | rw [if_neg (by omega)])); all_goals (try rfl))
  · have c5 : isTrk y f := bI_t b9
    refine gm_run X 2 (pc1 := 10) (ls1 := [_, _, _, _, _, _, _, _]) (st1 := [_, _]) rfl ?_
    refine gm_callS X rfl mX4_95 (fun M => mc_isTrack z.2.1 EV M (y := y) (t := t) (by omega) (by omega)) rfl rfl (Nat.le_of_ble_eq_true rfl) (gFit.of hR (by decide) (by decide) (by decide)) ?_
    refine gm_eq (st' := [.int (iI (bI (isTrk y t)))]) rfl rfl ?_
    refine gm_br X (pc1 := 36) (st1 := []) rfl (fun b9 => ?_) (fun b9 => ?_)
    · have c13 : ¬ (isTrk y t) := bI_f b9
      refine gm_run X 4 (pc1 := 42) (ls1 := [_, _, _, _, _, _, _, _]) (st1 := [_, _]) rfl ?_
      refine gm_br X (pc1 := 49) (st1 := [_]) rfl (fun b9 => ?_) (fun b9 => ?_)
      · have c42 : ¬ (0 : Int) = (0 : Int) := cNq b9 (by omega) (by omega)
        exact absurd c42 (by omega)
      · have c42 : (0 : Int) = (0 : Int) := cEq b9 (by omega) (by omega)
        refine gm_run X 2 (pc1 := 87) (ls1 := [_, _, _, _, _, _, _, _]) (st1 := [_, _]) rfl ?_
        refine gm_put X (v := 1) rfl fX4_80 (by decide) rfl mSet0 ?_
        have hT : mShT V y f t n = 1 := by unfold mShT; (repeat' split) <;> omega
        refine gm_run X 1 (pc1 := 91) (ls1 := [_, _, _, _, _, _, _, _]) (st1 := [_]) rfl ?_
        refine gm_get X rfl fX4_80 (v := .int (iI 1)) rfl ?_
        refine gm_br X (pc1 := 99) (st1 := []) rfl (fun b9 => ?_) (fun b9 => ?_)
        · have c94 : (1 : Int) ≤ (0 : Int) := cLe b9 (by omega) (by omega)
          exact absurd c94 (by omega)
        · have c94 : (0 : Int) < (1 : Int) := cNe b9 (by omega) (by omega)
          refine gm_run X 1 (pc1 := 98) (ls1 := [_, _, _, _, _, _, _, _]) (st1 := [_]) rfl ?_
          exact gm_ret X hQ rfl rfl (by unfold mShu; rw [hT]; (repeat (first | rw [if_pos (by omega)] | rw [if_neg (by omega)])); all_goals (try rfl)) (by unfold mShu; rw [hT]; (repeat (first | rw [if_pos (by omega)] | rw [if_neg (by omega)])); all_goals (try rfl))
    · have c13 : isTrk y t := bI_t b9
      refine gm_run X 2 (pc1 := 18) (ls1 := [_, _, _, _, _, _, _, _]) (st1 := [_, _]) rfl ?_
      refine gm_br X (pc1 := 36) (st1 := []) rfl (fun b9 => ?_) (fun b9 => ?_)
      · have c18 : f = t := cEq b9 (by omega) (by omega)
        refine gm_run X 4 (pc1 := 42) (ls1 := [_, _, _, _, _, _, _, _]) (st1 := [_, _]) rfl ?_
        refine gm_br X (pc1 := 49) (st1 := [_]) rfl (fun b9 => ?_) (fun b9 => ?_)
        · have c42 : ¬ (0 : Int) = (0 : Int) := cNq b9 (by omega) (by omega)
          exact absurd c42 (by omega)
        · have c42 : (0 : Int) = (0 : Int) := cEq b9 (by omega) (by omega)
          refine gm_run X 2 (pc1 := 87) (ls1 := [_, _, _, _, _, _, _, _]) (st1 := [_, _]) rfl ?_
          refine gm_put X (v := 1) rfl fX4_80 (by decide) rfl mSet0 ?_
          have hT : mShT V y f t n = 1 := by unfold mShT; (repeat' split) <;> omega
          refine gm_run X 1 (pc1 := 91) (ls1 := [_, _, _, _, _, _, _, _]) (st1 := [_]) rfl ?_
          refine gm_get X rfl fX4_80 (v := .int (iI 1)) rfl ?_
          refine gm_br X (pc1 := 99) (st1 := []) rfl (fun b9 => ?_) (fun b9 => ?_)
          · have c94 : (1 : Int) ≤ (0 : Int) := cLe b9 (by omega) (by omega)
            exact absurd c94 (by omega)
          · have c94 : (0 : Int) < (1 : Int) := cNe b9 (by omega) (by omega)
            refine gm_run X 1 (pc1 := 98) (ls1 := [_, _, _, _, _, _, _, _]) (st1 := [_]) rfl ?_
            exact gm_ret X hQ rfl rfl (by unfold mShu; rw [hT]; (repeat (first | rw [if_pos (by omega)] | rw [if_neg (by omega)])); all_goals (try rfl)) (by unfold mShu; rw [hT]; (repeat (first | rw [if_pos (by omega)] | rw [if_neg (by omega)])); all_goals (try rfl))
      · have c18 : ¬ f = t := cNq b9 (by omega) (by omega)
        refine gm_run X 3 (pc1 := 26) (ls1 := [_, _, _, _, _, _, _, _]) (st1 := [_, _, _]) rfl ?_
        refine gm_callS X rfl mX4_84 (fun M => mc_in z.2.1 EV M (v := n) (lo := 1) (hi := 6) (by omega) (by omega) (by omega)) rfl rfl (Nat.le_of_ble_eq_true rfl) (gFit.of hR (by decide) (by decide) (by decide)) ?_
        refine gm_eq (st' := [.int (iI (bI (1 ≤ n ∧ n ≤ 6)))]) rfl rfl ?_
        refine gm_br X (pc1 := 36) (st1 := []) rfl (fun b9 => ?_) (fun b9 => ?_)
        · have c29 : ¬ (1 ≤ n ∧ n ≤ 6) := bI_f b9
          refine gm_run X 4 (pc1 := 42) (ls1 := [_, _, _, _, _, _, _, _]) (st1 := [_, _]) rfl ?_
          refine gm_br X (pc1 := 49) (st1 := [_]) rfl (fun b9 => ?_) (fun b9 => ?_)
          · have c42 : ¬ (0 : Int) = (0 : Int) := cNq b9 (by omega) (by omega)
            exact absurd c42 (by omega)
          · have c42 : (0 : Int) = (0 : Int) := cEq b9 (by omega) (by omega)
            refine gm_run X 2 (pc1 := 87) (ls1 := [_, _, _, _, _, _, _, _]) (st1 := [_, _]) rfl ?_
            refine gm_put X (v := 1) rfl fX4_80 (by decide) rfl mSet0 ?_
            have hT : mShT V y f t n = 1 := by unfold mShT; (repeat' split) <;> omega
            refine gm_run X 1 (pc1 := 91) (ls1 := [_, _, _, _, _, _, _, _]) (st1 := [_]) rfl ?_
            refine gm_get X rfl fX4_80 (v := .int (iI 1)) rfl ?_
            refine gm_br X (pc1 := 99) (st1 := []) rfl (fun b9 => ?_) (fun b9 => ?_)
            · have c94 : (1 : Int) ≤ (0 : Int) := cLe b9 (by omega) (by omega)
              exact absurd c94 (by omega)
            · have c94 : (0 : Int) < (1 : Int) := cNe b9 (by omega) (by omega)
              refine gm_run X 1 (pc1 := 98) (ls1 := [_, _, _, _, _, _, _, _]) (st1 := [_]) rfl ?_
              exact gm_ret X hQ rfl rfl (by unfold mShu; rw [hT]; (repeat (first | rw [if_pos (by omega)] | rw [if_neg (by omega)])); all_goals (try rfl)) (by unfold mShu; rw [hT]; (repeat (first | rw [if_pos (by omega)] | rw [if_neg (by omega)])); all_goals (try rfl))
        · have c29 : 1 ≤ n ∧ n ≤ 6 := bI_t b9
          refine gm_run X 5 (pc1 := 42) (ls1 := [_, _, _, _, _, _, _, _]) (st1 := [_, _]) rfl ?_
          refine gm_br X (pc1 := 49) (st1 := [_]) rfl (fun b9 => ?_) (fun b9 => ?_)
          · have c42 : ¬ (1 : Int) = (0 : Int) := cNq b9 (by omega) (by omega)
            refine gm_run X 1 (pc1 := 50) (ls1 := [_, _, _, _, _, _, _, _]) (st1 := [_, _]) rfl ?_
            refine gm_get X rfl fX4_19 (v := .ref (ad 6)) rfl ?_
            refine gm_run X 5 (pc1 := 58) (ls1 := [_, _, _, _, _, _, _, _]) (st1 := [_, _, _]) rfl ?_
            refine gm_eq (ls' := [some (.ref am), some (.int (iI y)), some (.int (iI f)), some (.int (iI t)), some (.int (iI n)), some (.int (iI 1)), none, none]) (st' := [.int (iI ((5 * y) + f)), .ref (ad 6), .ref am]) (by simp only [iI_add, iI_sub, iI_mul, iI_neg]) (by simp only [iI_add, iI_sub, iI_mul, iI_neg]) ?_
            refine gm_ald X 6 (x := ((5 * y) + f)) (v := (V 6 ((5 * y) + f).toNat)) rfl rfl (by decide) (by show (0:Int) ≤ ((5 * y) + f) ∧ ((5 * y) + f) < 15; omega) (rfl) ?_
            have b58 := mI6 hI (j := ((5 * y) + f)) (by omega) (by omega)
            refine gm_run X 1 (pc1 := 61) (ls1 := [_, _, _, _, _, _, _, _]) (st1 := [_, _, _]) rfl ?_
            refine gm_br X (pc1 := 82) (st1 := [_]) rfl (fun b9 => ?_) (fun b9 => ?_)
            · have c61 : (V 6 ((5 * y) + f).toNat) < n := cLt b9 (by omega) (by omega)
              refine gm_run X 2 (pc1 := 87) (ls1 := [_, _, _, _, _, _, _, _]) (st1 := [_, _]) rfl ?_
              refine gm_put X (v := 2) rfl fX4_80 (by decide) rfl mSet0 ?_
              have hT : mShT V y f t n = 2 := by unfold mShT; (repeat' split) <;> omega
              refine gm_run X 1 (pc1 := 91) (ls1 := [_, _, _, _, _, _, _, _]) (st1 := [_]) rfl ?_
              refine gm_get X rfl fX4_80 (v := .int (iI 2)) rfl ?_
              refine gm_br X (pc1 := 99) (st1 := []) rfl (fun b9 => ?_) (fun b9 => ?_)
              · have c94 : (2 : Int) ≤ (0 : Int) := cLe b9 (by omega) (by omega)
                exact absurd c94 (by omega)
              · have c94 : (0 : Int) < (2 : Int) := cNe b9 (by omega) (by omega)
                refine gm_run X 1 (pc1 := 98) (ls1 := [_, _, _, _, _, _, _, _]) (st1 := [_]) rfl ?_
                exact gm_ret X hQ rfl rfl (by unfold mShu; rw [hT]; (repeat (first | rw [if_pos (by omega)] | rw [if_neg (by omega)])); all_goals (try rfl)) (by unfold mShu; rw [hT]; (repeat (first | rw [if_pos (by omega)] | rw [if_neg (by omega)])); all_goals (try rfl))
            · have c61 : n ≤ (V 6 ((5 * y) + f).toNat) := cNl b9 (by omega) (by omega)
              refine gm_run X 1 (pc1 := 65) (ls1 := [_, _, _, _, _, _, _, _]) (st1 := [_, _]) rfl ?_
              refine gm_get X rfl fX4_19 (v := .ref (ad 6)) rfl ?_
              refine gm_run X 5 (pc1 := 73) (ls1 := [_, _, _, _, _, _, _, _]) (st1 := [_, _, _]) rfl ?_
              refine gm_eq (ls' := [some (.ref am), some (.int (iI y)), some (.int (iI f)), some (.int (iI t)), some (.int (iI n)), some (.int (iI 1)), none, none]) (st' := [.int (iI ((5 * y) + t)), .ref (ad 6), .ref am]) (by simp only [iI_add, iI_sub, iI_mul, iI_neg]) (by simp only [iI_add, iI_sub, iI_mul, iI_neg]) ?_
              refine gm_ald X 6 (x := ((5 * y) + t)) (v := (V 6 ((5 * y) + t).toNat)) rfl rfl (by decide) (by show (0:Int) ≤ ((5 * y) + t) ∧ ((5 * y) + t) < 15; omega) (rfl) ?_
              have b73 := mI6 hI (j := ((5 * y) + t)) (by omega) (by omega)
              refine gm_run X 3 (pc1 := 79) (ls1 := [_, _, _, _, _, _, _, _]) (st1 := [_, _, _]) rfl ?_
              refine gm_eq (ls' := [some (.ref am), some (.int (iI y)), some (.int (iI f)), some (.int (iI t)), some (.int (iI n)), some (.int (iI 1)), none, none]) (st' := [.int (iI 6), .int (iI ((V 6 ((5 * y) + t).toNat) + n)), .ref am]) (by simp only [iI_add, iI_sub, iI_mul, iI_neg]) (by simp only [iI_add, iI_sub, iI_mul, iI_neg]) ?_
              refine gm_br X (pc1 := 86) (st1 := [_]) rfl (fun b9 => ?_) (fun b9 => ?_)
              · have c79 : ((V 6 ((5 * y) + t).toNat) + n) ≤ 6 := cLe b9 (by omega) (by omega)
                refine gm_run X 1 (pc1 := 87) (ls1 := [_, _, _, _, _, _, _, _]) (st1 := [_, _]) rfl ?_
                refine gm_put X (v := 0) rfl fX4_80 (by decide) rfl mSet0 ?_
                have hT : mShT V y f t n = 0 := by unfold mShT; (repeat' split) <;> omega
                refine gm_run X 1 (pc1 := 91) (ls1 := [_, _, _, _, _, _, _, _]) (st1 := [_]) rfl ?_
                refine gm_get X rfl fX4_80 (v := .int (iI 0)) rfl ?_
                refine gm_br X (pc1 := 99) (st1 := []) rfl (fun b9 => ?_) (fun b9 => ?_)
                · have c94 : (0 : Int) ≤ (0 : Int) := cLe b9 (by omega) (by omega)
                  refine gm_run X 7 (pc1 := 107) (ls1 := [_, _, _, _, _, _, _, _]) (st1 := [_]) rfl ?_
                  refine gm_eq (ls' := [some (.ref am), some (.int (iI y)), some (.int (iI f)), some (.int (iI t)), some (.int (iI n)), some (.int (iI 1)), some (.int (iI ((5 * y) + f))), none]) (st' := [.ref am]) (by simp only [iI_add, iI_sub, iI_mul, iI_neg]) (by simp only [iI_add, iI_sub, iI_mul, iI_neg]) ?_
                  refine gm_get X rfl fX4_19 (v := .ref (ad 6)) rfl ?_
                  refine gm_run X 2 (pc1 := 113) (ls1 := [_, _, _, _, _, _, _, _]) (st1 := [_, _, _, _]) rfl ?_
                  refine gm_ald X 6 (x := ((5 * y) + f)) (v := (V 6 ((5 * y) + f).toNat)) rfl rfl (by decide) (by show (0:Int) ≤ ((5 * y) + f) ∧ ((5 * y) + f) < 15; omega) (rfl) ?_
                  have b113 := mI6 hI (j := ((5 * y) + f)) (by omega) (by omega)
                  refine gm_run X 2 (pc1 := 117) (ls1 := [_, _, _, _, _, _, _, _]) (st1 := [_, _, _]) rfl ?_
                  refine gm_eq (ls' := [some (.ref am), some (.int (iI y)), some (.int (iI f)), some (.int (iI t)), some (.int (iI n)), some (.int (iI 1)), some (.int (iI ((5 * y) + f))), none]) (st' := [.int (iI ((V 6 ((5 * y) + f).toNat) - n)), .int (iI ((5 * y) + f)), .ref (ad 6)]) (by simp only [iI_add, iI_sub, iI_mul, iI_neg]) (by simp only [iI_add, iI_sub, iI_mul, iI_neg]) ?_
                  refine gm_ast X 6 (x := ((5 * y) + f)) (v := ((V 6 ((5 * y) + f).toNat) - n)) rfl rfl (by decide) (by show (0:Int) ≤ ((5 * y) + f) ∧ ((5 * y) + f) < 15; omega) ?_
                  refine gm_run X 2 (pc1 := 121) (ls1 := [_, _, _, _, _, _, _, _]) (st1 := []) rfl ?_
                  exact loop hT (by omega) n.toNat 0 (by omega)
                · have c94 : (0 : Int) < (0 : Int) := cNe b9 (by omega) (by omega)
                  exact absurd c94 (by omega)
              · have c79 : 6 < ((V 6 ((5 * y) + t).toNat) + n) := cNe b9 (by omega) (by omega)
                refine gm_run X 2 (pc1 := 87) (ls1 := [_, _, _, _, _, _, _, _]) (st1 := [_, _]) rfl ?_
                refine gm_put X (v := 2) rfl fX4_80 (by decide) rfl mSet0 ?_
                have hT : mShT V y f t n = 2 := by unfold mShT; (repeat' split) <;> omega
                refine gm_run X 1 (pc1 := 91) (ls1 := [_, _, _, _, _, _, _, _]) (st1 := [_]) rfl ?_
                refine gm_get X rfl fX4_80 (v := .int (iI 2)) rfl ?_
                refine gm_br X (pc1 := 99) (st1 := []) rfl (fun b9 => ?_) (fun b9 => ?_)
                · have c94 : (2 : Int) ≤ (0 : Int) := cLe b9 (by omega) (by omega)
                  exact absurd c94 (by omega)
                · have c94 : (0 : Int) < (2 : Int) := cNe b9 (by omega) (by omega)
                  refine gm_run X 1 (pc1 := 98) (ls1 := [_, _, _, _, _, _, _, _]) (st1 := [_]) rfl ?_
                  exact gm_ret X hQ rfl rfl (by unfold mShu; rw [hT]; (repeat (first | rw [if_pos (by omega)] | rw [if_neg (by omega)])); all_goals (try rfl)) (by unfold mShu; rw [hT]; (repeat (first | rw [if_pos (by omega)] | rw [if_neg (by omega)])); all_goals (try rfl))
          · have c42 : (1 : Int) = (0 : Int) := cEq b9 (by omega) (by omega)
            exact absurd c42 (by omega)
