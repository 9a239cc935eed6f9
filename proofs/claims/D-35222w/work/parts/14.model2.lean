/-! THE REFERENCE's methods, walked: calls, bookings, trains -/
def fBit (a n : Int) : Int := ((a.toNat >>> n.toNat) % 2 : Nat)
def fXor (a n : Int) : Int := ((a.toNat ^^^ (1 <<< n.toNat) : Nat) : Int)
theorem fb_all : ∀ a : Fin 16, ∀ n : Fin 4, (iI (a.val : Int) >>> (iI (n.val : Int) &&& 31)) &&& iI 1 = iI (fBit (a.val : Int) (n.val : Int)) := by decide +kernel
theorem fx_all : ∀ a : Fin 16, ∀ n : Fin 4, iI (a.val : Int) ^^^ (iI 1 <<< (iI (n.val : Int) &&& 31)) = iI (fXor (a.val : Int) (n.val : Int)) := by decide +kernel
theorem fb_eq {a n : Int} (ha : 0 ≤ a ∧ a ≤ 15) (hn : 0 ≤ n ∧ n ≤ 3) : (iI a >>> (iI n &&& 31)) &&& iI 1 = iI (fBit a n) := by
  obtain ⟨i, rfl⟩ : ∃ i : Nat, a = i := ⟨a.toNat, by omega⟩
  obtain ⟨j, rfl⟩ : ∃ j : Nat, n = j := ⟨n.toNat, by omega⟩
  exact fb_all ⟨i, by omega⟩ ⟨j, by omega⟩
theorem fx_eq {a n : Int} (ha : 0 ≤ a ∧ a ≤ 15) (hn : 0 ≤ n ∧ n ≤ 3) : iI a ^^^ (iI 1 <<< (iI n &&& 31)) = iI (fXor a n) := by
  obtain ⟨i, rfl⟩ : ∃ i : Nat, a = i := ⟨a.toNat, by omega⟩
  obtain ⟨j, rfl⟩ : ∃ j : Nat, n = j := ⟨n.toNat, by omega⟩
  exact fx_all ⟨i, by omega⟩ ⟨j, by omega⟩
theorem fBit_r (a n : Int) : fBit a n = 0 ∨ fBit a n = 1 := by unfold fBit; omega
theorem fx_r : ∀ a : Fin 16, ∀ n : Fin 4, 0 ≤ fXor (a.val : Int) (n.val : Int) ∧ fXor (a.val : Int) (n.val : Int) ≤ 15 := by decide +kernel
theorem fXor_r {a n : Int} (ha : 0 ≤ a ∧ a ≤ 15) (hn : 0 ≤ n ∧ n ≤ 3) : 0 ≤ fXor a n ∧ fXor a n ≤ 15 := by
  obtain ⟨i, rfl⟩ : ∃ i : Nat, a = i := ⟨a.toNat, by omega⟩
  obtain ⟨j, rfl⟩ : ∃ j : Nat, n = j := ⟨n.toNat, by omega⟩
  exact fx_r ⟨i, by omega⟩ ⟨j, by omega⟩
def gMask : List Bool → List (Option Value) → List (Option Value)
  | true :: m, x :: l => x :: gMask m l
  | false :: m, _ :: l => none :: gMask m l
  | _, _ => []
theorem gMask_s : ∀ (m : List Bool) (l : List (Option Value)) (k : Nat) (v : Value), (gMask m l)[k]? = some (some v) → l[k]? = some (some v)
  | [], l, k, v, h => by simp [gMask] at h
  | b :: m, [], k, v, h => by cases b <;> simp [gMask] at h
  | true :: m, x :: l, 0, v, h => by simpa [gMask] using h
  | false :: m, x :: l, 0, v, h => by simp [gMask] at h
  | true :: m, x :: l, k + 1, v, h => by simpa using gMask_s m l k v (by simpa [gMask] using h)
  | false :: m, x :: l, k + 1, v, h => by simpa using gMask_s m l k v (by simpa [gMask] using h)
theorem gLs.mask {la : Array Slot} {nL : Nat} {ls : List (Option Value)} (h : gLs la nL ls) (m : List Bool) : gLs la nL (gMask m ls) := by
  refine ⟨⟨h.1.1, h.1.2.1, fun q hq => ?_⟩, fun k v hk => h.2 k v (gMask_s m ls k v hk)⟩
  obtain ⟨j, hj, hl⟩ := (gPairs_mem _ 0 q.1 q.2).mp hq
  exact h.1.2.2 q ((gPairs_mem _ 0 q.1 q.2).mpr ⟨j, hj, gMask_s m ls j q.2 hl⟩)
/-- forget locals -/
theorem g_forget {z : gZ} {S : gS} {EV : gEV} {Q : State → Prop} {M : gM} {k n pc : Nat} {ls ls' : List (Option Value)} {st : List Value} (m : List Bool) (h : gMask m ls = ls') (kk : gG z S EV Q M k n pc ls' st) : gG z S EV Q M k n pc ls st := by
  subst h
  exact fun H locs la hl hP hS => kk H locs la (hl.mask m) hP hS
theorem gm_forget {z : gZ} {S : gS} {EV : gEV} {Q : State → Prop} {M0 : gM} {am : Nat} {ad : Nat → Nat} {V : gV} {pc : Nat} {ls ls' : List (Option Value)} {st : List Value} (m : List Bool) (h : gMask m ls = ls') (kk : gMd z S EV Q M0 am ad V pc ls' st) : gMd z S EV Q M0 am ad V pc ls st :=
  fun M hM hF => g_forget m h (kk M hM hF)
theorem gm_V {z : gZ} {S : gS} {EV : gEV} {Q : State → Prop} {M0 : gM} {am : Nat} {ad : Nat → Nat} {V V' : gV} {pc : Nat} {ls : List (Option Value)} {st : List Value} (h : V = V') (kk : gMd z S EV Q M0 am ad V' pc ls st) : gMd z S EV Q M0 am ad V pc ls st := by
  subst h; exact kk
/-! specifications -/
abbrev fitsP (V : gV) (w g : Int) : Prop := V 4 w.toNat = -1 ∨ V 4 w.toNat = g ∨ fBit (V 8 (V 4 w.toNat).toNat) g = 1
def mCN (V : gV) (c : Int) : Nat → Int
  | 0 => -1
  | k + 1 => if V 15 (k : Int).toNat = 1 ∧ V 13 (k : Int).toNat = c then (k : Int) else mCN V c k
def mCT (V : gV) (y : Int) : Nat → Int
  | 0 => 0
  | k + 1 => mCT V y k + (if V 15 (k : Int).toNat = 1 ∧ V 14 (k : Int).toNat = y then 1 else 0)
theorem mCN_r (V : gV) (c : Int) (k : Nat) : -1 ≤ mCN V c k ∧ mCN V c k < k := by
  induction k with
  | zero => unfold mCN; omega
  | succ k ih => unfold mCN; split <;> omega
theorem mCT_r (V : gV) (y : Int) (k : Nat) : 0 ≤ mCT V y k ∧ mCT V y k ≤ k := by
  induction k with
  | zero => unfold mCT; omega
  | succ k ih => unfold mCT; split <;> omega
def mFB (V : gV) (a b : Int) : Int := if V 9 (2 * (a + b - 1)).toNat = -1 then 2 * (a + b - 1) else if V 9 (2 * (a + b - 1) + 1).toNat = -1 then 2 * (a + b - 1) + 1 else -1
theorem mFB_r (V : gV) {a b : Int} (h : (0 ≤ a ∧ a ≤ 2) ∧ (0 ≤ b ∧ b ≤ 2) ∧ ¬ a = b) : -1 ≤ mFB V a b ∧ mFB V a b ≤ 5 := by unfold mFB; (repeat' split) <;> omega
abbrev mTWb (V : gV) (f t : Int) : Prop := f = t ∨ ¬ mFB V f t = -1 ∨ ¬ mFB V f (3 - f - t) = -1 ∧ ¬ mFB V (3 - f - t) t = -1
def mTWv (V : gV) (f t : Int) : gV := if f = t then V else if ¬ mFB V f t = -1 then vS V 9 (mFB V f t).toNat (V 11 0) else if mFB V f (3 - f - t) = -1 ∨ mFB V (3 - f - t) t = -1 then V else vS (vS V 9 (mFB V f (3 - f - t)).toNat (V 11 0)) 9 (mFB V (3 - f - t) t).toNat (V 11 0)
theorem mTWv_k {V : gV} {f t : Int} {k i : Nat} (h : k ≠ 9) : mTWv V f t k i = V k i := by
  unfold mTWv
  (repeat' split) <;> simp [vS, h]
def mCallT (V : gV) (c y : Int) : Int := if ¬ ((0 ≤ c ∧ c ≤ 5) ∧ isYd y) then 1 else if ¬ mCN V c (V 11 0).toNat = -1 ∨ V 11 0 = 60 then 2 else 0
def mCallV (V : gV) (c y : Int) : gV := vS (vS (vS (vS (vS V 13 (V 11 0).toNat c) 14 (V 11 0).toNat y) 15 (V 11 0).toNat 1) 16 (V 11 0).toNat (-1)) 11 0 (V 11 0 + 1)
def mCall (V : gV) (c y : Int) : Int × gV := if 0 < mCallT V c y then (0, vS V 0 0 (mCallT V c y)) else
  if V 10 y.toNat ≤ mCT (vS V 0 0 (mCallT V c y)) y (V 11 0).toNat then (-1, vS (vS V 0 0 (mCallT V c y)) 12 0 (V 12 0 + 1)) else
  if mTWb (vS V 0 0 (mCallT V c y)) (c % 3) y then (mTWv (vS V 0 0 (mCallT V c y)) (c % 3) y 11 0 + 1 - 1, mCallV (mTWv (vS V 0 0 (mCallT V c y)) (c % 3) y) c y) else
  (-1, vS (mTWv (vS V 0 0 (mCallT V c y)) (c % 3) y) 12 0 (mTWv (vS V 0 0 (mCallT V c y)) (c % 3) y 12 0 + 1))
def mFi (V : gV) (g at' : Int) (s0 : Int × Int) : Nat → Int × Int
  | 0 => s0
  | k + 1 => if ¬ isPr V (V 7 (6 * at' + (k : Int)).toNat) ∧ fitsP V (V 7 (6 * at' + (k : Int)).toNat) g ∧ V 6 at'.toNat - 1 - (k : Int) < (mFi V g at' s0 k).2 then (V 7 (6 * at' + (k : Int)).toNat, V 6 at'.toNat - 1 - (k : Int)) else mFi V g at' s0 k
def mFo (V : gV) (y g : Int) : Nat → Int × Int
  | 0 => (-1, 6)
  | t + 1 => mFi V g (5 * y + (t : Int)) (mFo V y g t) (V 6 (5 * y + (t : Int)).toNat).toNat
def mFind (V : gV) (y g : Int) : Int := (mFo V y g 5).1
def mAdds (V : gV) (b w : Int) : gV := vS (vS (vS V 24 (30 * b + V 23 b.toNat).toNat w) 23 b.toNat (V 23 b.toNat + 1)) 5 w.toNat b
def mEn (W : gV) (c : Int) : Nat → gV
  | 0 => W
  | k + 1 => vS (mEn W c k) 9 (k : Int).toNat (if mEn W c k 9 (k : Int).toNat = c then -1 else mEn W c k 9 (k : Int).toNat)
theorem mEn_k {W : gV} {c : Int} {k i : Nat} (h : k ≠ 9) (n : Nat) : mEn W c n k i = W k i := by
  induction n with
  | zero => rfl
  | succ n ih => rw [mEn, vS_k h, ih]
theorem mEn_9 {W : gV} {c : Int} {i : Nat} (n : Nat) (h : n ≤ i) : mEn W c n 9 i = W 9 i := by
  induction n with
  | zero => rfl
  | succ n ih => rw [mEn, vS_i (by omega), ih (by omega)]
def mEnd (V : gV) (c : Int) : gV := mEn (vS V 15 c.toNat 0) c 6
theorem mEnd_k {V : gV} {c : Int} {k i : Nat} (h : k ≠ 9) (h2 : k ≠ 15) : mEnd V c k i = V k i := by
  unfold mEnd
  rw [mEn_k h, vS_k h2]
def mFolT (_ : gV) (f n : Int) : Int := if isGr f ∧ isGr n ∧ ¬ f = n then 0 else 1
def mFolV (V : gV) (f n : Int) : gV := if 0 < mFolT V f n then vS V 0 0 (mFolT V f n) else vS (vS V 0 0 (mFolT V f n)) 8 f.toNat (fXor (V 8 f.toNat) n)
abbrev mFolB (V : gV) (f n : Int) : Prop := (isGr f ∧ isGr n ∧ ¬ f = n) ∧ fBit (fXor (V 8 f.toNat) n) n = 1
def mConfT (V : gV) (c : Int) : Int := if ¬ isCl V c then 1 else if V 15 c.toNat = 0 ∨ V 16 c.toNat = -1 then 2 else 0
def mConf (V : gV) (c : Int) : Int × gV := if 0 < mConfT V c then (0, vS V 0 0 (mConfT V c)) else (V 16 c.toNat, vS (vS (vS V 0 0 (mConfT V c)) 18 (V 16 c.toNat).toNat 2) 16 c.toNat (-1))
abbrev isOfP (V : gV) (c b : Int) : Prop := V 20 b.toNat = V 13 c.toNat ∧ V 21 b.toNat = V 14 c.toNat
def mResT (V : gV) (c b : Int) : Int := if ¬ (isCl V c ∧ isBk V b) then 1 else if ¬ V 15 c.toNat = 0 ∧ V 16 c.toNat = -1 ∧ V 18 b.toNat = 1 ∧ isOfP V c b then 0 else 2
def mRes (V : gV) (c b : Int) : Int × gV := if 0 < mResT V c b then (0, vS V 0 0 (mResT V c b)) else (V 23 b.toNat, vS (vS (vS V 0 0 (mResT V c b)) 18 b.toNat 0) 16 c.toNat b)
def mCanT (V : gV) (c b : Int) : Int := if ¬ (isCl V c ∧ isBk V b) then 1 else if ¬ V 15 c.toNat = 0 ∧ V 18 b.toNat = 2 ∧ isOfP V c b then 0 else 2
def mCan (V : gV) (c b : Int) : Int × gV := if 0 < mCanT V c b then (0, vS V 0 0 (mCanT V c b)) else (V 23 b.toNat, vS (vS V 0 0 (mCanT V c b)) 18 b.toNat 5)
def mHangT (V : gV) (c : Int) : Int := if ¬ isCl V c then 1 else if V 15 c.toNat = 0 then 2 else 0
def mHang2 (W : gV) (c : Int) : Int × gV := if W 16 c.toNat = -1 then (0, W) else (W 23 (W 16 c.toNat).toNat, vS W 18 (W 16 c.toNat).toNat 5)
def mHang (V : gV) (c : Int) : Int × gV := if 0 < mHangT V c then (0, vS V 0 0 (mHangT V c)) else mHang2 (mEnd (vS V 0 0 (mHangT V c)) c) c
def mCofT (_ : gV) (c : Int) : Int := if 0 ≤ c ∧ c ≤ 5 then 0 else 1
def mCof (V : gV) (c : Int) : Int × gV := if 0 < mCofT V c then (0, vS V 0 0 (mCofT V c)) else (mCN (vS V 0 0 (mCofT V c)) c (V 11 0).toNat, vS V 0 0 (mCofT V c))
def mWy (V : gV) (c : Int) : Nat → Int
  | 0 => 0
  | k + 1 => mWy V c k + (if V 9 (k : Int).toNat = c then 1 else 0)
theorem mWy_r (V : gV) (c : Int) (k : Nat) : 0 ≤ mWy V c k ∧ mWy V c k ≤ k := by
  induction k with
  | zero => unfold mWy; omega
  | succ k ih => unfold mWy; split <;> omega
def mWay (V : gV) (c : Int) : Int × gV := if 0 < mHangT V c then (0, vS V 0 0 (mHangT V c)) else (mWy V c 6, vS V 0 0 (mHangT V c))
def mCutT (V : gV) (a b k : Int) : Int := if ¬ isTk a b k then 1 else if V 9 (2 * (a + b - 1) + k).toNat = -2 then 2 else 0
def mCut2 (W : gV) (c x : Int) : Int × gV := if W 16 c.toNat = -1 then (c, vS W 9 x.toNat (-2)) else (c, vS (vS (vS W 18 (W 16 c.toNat).toNat 1) 22 (W 16 c.toNat).toNat (W 1 0 + 10)) 9 x.toNat (-2))
def mCut (V : gV) (a b k : Int) : Int × gV := if 0 < mCutT V a b k then (0, vS V 0 0 (mCutT V a b k)) else
  if V 9 (2 * (a + b - 1) + k).toNat = -1 then (V 9 (2 * (a + b - 1) + k).toNat, vS (vS V 0 0 (mCutT V a b k)) 9 (2 * (a + b - 1) + k).toNat (-2)) else
  mCut2 (mEnd (vS V 0 0 (mCutT V a b k)) (V 9 (2 * (a + b - 1) + k).toNat)) (V 9 (2 * (a + b - 1) + k).toNat) (2 * (a + b - 1) + k)
def mMendT (V : gV) (a b k : Int) : Int := if ¬ isTk a b k then 1 else if V 9 (2 * (a + b - 1) + k).toNat = -2 then 0 else 2
def mMend (V : gV) (a b k : Int) : Int × gV := if 0 < mMendT V a b k then (0, vS V 0 0 (mMendT V a b k)) else (0, vS (vS V 0 0 (mMendT V a b k)) 9 (2 * (a + b - 1) + k).toNat (-1))
def mTrkT (_ : gV) (a b k : Int) : Int := if isTk a b k then 0 else 1
def mTrk (V : gV) (a b k : Int) : Int × gV := if 0 < mTrkT V a b k then (0, vS V 0 0 (mTrkT V a b k)) else (V 9 (2 * (a + b - 1) + k).toNat, vS V 0 0 (mTrkT V a b k))
def mLinT (V : gV) (y l : Int) : Int := if ¬ (isYd y ∧ 0 ≤ l ∧ l ≤ 3) then 1 else if l < mCT V y (V 11 0).toNat then 2 else 0
def mLin (V : gV) (y l : Int) : Int × gV := if 0 < mLinT V y l then (0, vS V 0 0 (mLinT V y l)) else (V 10 y.toNat, vS (vS V 0 0 (mLinT V y l)) 10 y.toNat l)
def mPa (W : gV) : Nat → Int × gV
  | 0 => (0, W)
  | b + 1 => if (mPa W b).2 18 (b : Int).toNat = 1 ∧ (mPa W b).2 22 (b : Int).toNat ≤ (mPa W b).2 1 0 then ((mPa W b).1 + 1, vS (mPa W b).2 18 (b : Int).toNat 5) else mPa W b
theorem mPa_k {W : gV} {k i : Nat} (h : k ≠ 18) (n : Nat) : (mPa W n).2 k i = W k i := by
  induction n with
  | zero => rfl
  | succ n ih =>
    rw [mPa]
    split
    · show vS _ _ _ _ k i = _
      rw [vS_k h, ih]
    · exact ih
theorem mPa_18 {W : gV} {i : Nat} (n : Nat) (h : n ≤ i) : (mPa W n).2 18 i = W 18 i := by
  induction n with
  | zero => rfl
  | succ n ih =>
    rw [mPa]
    split
    · show vS _ _ _ _ 18 i = _
      rw [vS_i (by omega), ih (by omega)]
    · exact ih (by omega)
theorem mPa_r (W : gV) (n : Nat) : 0 ≤ (mPa W n).1 ∧ (mPa W n).1 ≤ n := by
  induction n with
  | zero => simp [mPa]
  | succ n ih =>
    rw [mPa]
    split
    · show 0 ≤ (mPa W n).1 + 1 ∧ (mPa W n).1 + 1 ≤ _; omega
    · omega
def mPassT (V : gV) (t : Int) : Int := if ¬ (1 ≤ t ∧ t ≤ 100) then 1 else if 10000 < V 1 0 + t then 2 else 0
def mPass (V : gV) (t : Int) : Int × gV := if 0 < mPassT V t then (0, vS V 0 0 (mPassT V t)) else mPa (vS (vS V 0 0 (mPassT V t)) 1 0 (V 1 0 + t)) (V 17 0).toNat
def mLapT (V : gV) (b : Int) : Int := if ¬ isBk V b then 1 else if V 18 b.toNat = 1 then 0 else 2
def mLap (V : gV) (b : Int) : Int × gV := if 0 < mLapT V b then (0, vS V 0 0 (mLapT V b)) else (V 22 b.toNat - V 1 0, vS V 0 0 (mLapT V b))
def mWofT (V : gV) (b p : Int) : Int := if isBk V b ∧ 0 ≤ p ∧ p ≤ V 23 b.toNat - 1 then 0 else 1
def mWof (V : gV) (b p : Int) : Int × gV := if 0 < mWofT V b p then (0, vS V 0 0 (mWofT V b p)) else (V 24 (30 * b + p).toNat, vS V 0 0 (mWofT V b p))
set_option maxHeartbeats 1000000 in
theorem mc_fits (l : Launch) (EV : gEV) (am : Nat) (ad : Nat → Nat) {V : gV} {w : Int} (hw : inR w) {g : Int} (hg : inR g) (hI : mI V) (hw2 : 0 ≤ w ∧ w < V 2 0) (hg2 : 0 ≤ g ∧ g ≤ 3) : MC l yX4_fits cX4_fits 3 (some .boolean) 1 EV am ad [.int (iI w), .int (iI g)] V (some (.int (iI (bI (fitsP V w g))))) (V) := by
  intro M0 hM0
  refine g_body tbX4_fits tkX4_fits (by decide) (by intro v hv; simp only [List.mem_cons, List.not_mem_nil, or_false] at hv; rcases hv with rfl | rfl | rfl <;> rfl) (Nat.le_of_ble_eq_true rfl) (fun z Q X hl hR hQ hE => ?_)
  subst hl
  refine (?_ : gMd z _ EV Q M0 am ad V 0 [some (.ref am), some (.int (iI w)), some (.int (iI g))] []) M0 hM0 gFr.rf
  have hs := mIs hI
  refine gm_run X 1 (pc1 := 1) (ls1 := [_, _, _]) (st1 := [_]) rfl ?_
  refine gm_get X rfl fX4_13 (v := .ref (ad 4)) rfl ?_
  refine gm_run X 1 (pc1 := 5) (ls1 := [_, _, _]) (st1 := [_, _]) rfl ?_
  refine gm_ald X 4 (x := w) (v := (V 4 w.toNat)) rfl rfl (by decide) (by show (0:Int) ≤ w ∧ w < 30; omega) (rfl) ?_
  have b5 := mI4 hI (j := w) (by omega) (by omega)
  refine gm_run X 1 (pc1 := 7) (ls1 := [_, _, _]) (st1 := [_, _]) rfl ?_
  refine gm_br X (pc1 := 39) (st1 := []) rfl (fun b9 => ?_) (fun b9 => ?_)
  · have c7 : (V 4 w.toNat) = (-1) := cEq b9 (by omega) (by omega)
    refine gm_run X 2 (pc1 := 44) (ls1 := [_, _, _]) (st1 := [_]) rfl ?_
    exact gm_zret X hQ rfl rfl rfl (by rw [bI_1 (p := fitsP V w g) (by omega)]) rfl
  · have c7 : ¬ (V 4 w.toNat) = (-1) := cNq b9 (by omega) (by omega)
    refine gm_run X 1 (pc1 := 11) (ls1 := [_, _, _]) (st1 := [_]) rfl ?_
    refine gm_get X rfl fX4_13 (v := .ref (ad 4)) rfl ?_
    refine gm_run X 1 (pc1 := 15) (ls1 := [_, _, _]) (st1 := [_, _]) rfl ?_
    refine gm_ald X 4 (x := w) (v := (V 4 w.toNat)) rfl rfl (by decide) (by show (0:Int) ≤ w ∧ w < 30; omega) (rfl) ?_
    have b15 := mI4 hI (j := w) (by omega) (by omega)
    refine gm_run X 1 (pc1 := 17) (ls1 := [_, _, _]) (st1 := [_, _]) rfl ?_
    refine gm_br X (pc1 := 39) (st1 := []) rfl (fun b9 => ?_) (fun b9 => ?_)
    · have c17 : (V 4 w.toNat) = g := cEq b9 (by omega) (by omega)
      refine gm_run X 2 (pc1 := 44) (ls1 := [_, _, _]) (st1 := [_]) rfl ?_
      exact gm_zret X hQ rfl rfl rfl (by rw [bI_1 (p := fitsP V w g) (by omega)]) rfl
    · have c17 : ¬ (V 4 w.toNat) = g := cNq b9 (by omega) (by omega)
      refine gm_run X 1 (pc1 := 21) (ls1 := [_, _, _]) (st1 := [_]) rfl ?_
      refine gm_get X rfl fX4_25 (v := .ref (ad 8)) rfl ?_
      refine gm_run X 1 (pc1 := 25) (ls1 := [_, _, _]) (st1 := [_, _]) rfl ?_
      refine gm_get X rfl fX4_13 (v := .ref (ad 4)) rfl ?_
      refine gm_run X 1 (pc1 := 29) (ls1 := [_, _, _]) (st1 := [_, _, _]) rfl ?_
      refine gm_ald X 4 (x := w) (v := (V 4 w.toNat)) rfl rfl (by decide) (by show (0:Int) ≤ w ∧ w < 30; omega) (rfl) ?_
      have b29 := mI4 hI (j := w) (by omega) (by omega)
      refine gm_ald X 8 (x := (V 4 w.toNat)) (v := (V 8 (V 4 w.toNat).toNat)) rfl rfl (by decide) (by show (0:Int) ≤ (V 4 w.toNat) ∧ (V 4 w.toNat) < 4; omega) (rfl) ?_
      have b30 := mI8 hI (j := (V 4 w.toNat)) (by omega) (by omega)
      refine gm_run X 4 (pc1 := 35) (ls1 := [_, _, _]) (st1 := [_]) rfl ?_
      refine gm_eq (ls' := [some (.ref am), some (.int (iI w)), some (.int (iI g))]) (st' := [.int (iI (fBit (V 8 (V 4 w.toNat).toNat) g))]) (by simp only [iI_add, iI_sub, iI_mul, iI_neg, fb_eq (a := (V 8 (V 4 w.toNat).toNat)) (n := g) (by omega) (by omega)]) (by simp only [iI_add, iI_sub, iI_mul, iI_neg, fb_eq (a := (V 8 (V 4 w.toNat).toNat)) (n := g) (by omega) (by omega)]) ?_
      have r35 := fBit_r (V 8 (V 4 w.toNat).toNat) g
      refine gm_run X 1 (pc1 := 36) (ls1 := [_, _, _]) (st1 := [_, _]) rfl ?_
      refine gm_br X (pc1 := 43) (st1 := []) rfl (fun b9 => ?_) (fun b9 => ?_)
      · have c36 : ¬ (fBit (V 8 (V 4 w.toNat).toNat) g) = 1 := cNq b9 (by omega) (by omega)
        refine gm_run X 1 (pc1 := 44) (ls1 := [_, _, _]) (st1 := [_]) rfl ?_
        exact gm_zret X hQ rfl rfl rfl (by rw [bI_0 (p := fitsP V w g) (by omega)]) rfl
      · have c36 : (fBit (V 8 (V 4 w.toNat).toNat) g) = 1 := cEq b9 (by omega) (by omega)
        refine gm_run X 2 (pc1 := 44) (ls1 := [_, _, _]) (st1 := [_]) rfl ?_
        exact gm_zret X hQ rfl rfl rfl (by rw [bI_1 (p := fitsP V w g) (by omega)]) rfl
set_option maxHeartbeats 1000000 in
theorem mc_follow (l : Launch) (EV : gEV) (am : Nat) (ad : Nat → Nat) {V : gV} {f : Int} (hf : inR f) {g : Int} (hg : inR g) (hI : mI V) : MC l yX4_follow cX4_follow 3 (some .boolean) 4 EV am ad [.int (iI f), .int (iI g)] V (some (.int (iI (bI (mFolB V f g))))) (mFolV V f g) := by
  intro M0 hM0
  refine g_body tbX4_follow tkX4_follow (by decide) (by intro v hv; simp only [List.mem_cons, List.not_mem_nil, or_false] at hv; rcases hv with rfl | rfl | rfl <;> rfl) (Nat.le_of_ble_eq_true rfl) (fun z Q X hl hR hQ hE => ?_)
  subst hl
  refine (?_ : gMd z _ EV Q M0 am ad V 0 [some (.ref am), some (.int (iI f)), some (.int (iI g))] []) M0 hM0 gFr.rf
  have hs := mIs hI
  refine gm_run X 2 (pc1 := 2) (ls1 := [_, _, _]) (st1 := [_, _]) rfl ?_
  refine gm_callS X rfl mX4_103 (fun M => mc_isGrain z.2.1 EV M (g := f) (by omega)) rfl rfl (Nat.le_of_ble_eq_true rfl) (gFit.of hR (by decide) (by decide) (by decide)) ?_
  refine gm_eq (st' := [.int (iI (bI (isGr f))), .ref am]) rfl rfl ?_
  refine gm_br X (pc1 := 24) (st1 := [_]) rfl (fun b9 => ?_) (fun b9 => ?_)
  · have c5 : ¬ (isGr f) := bI_f b9
    refine gm_run X 1 (pc1 := 25) (ls1 := [_, _, _]) (st1 := [_, _]) rfl ?_
    refine gm_put X (v := 1) rfl fX4_80 (by decide) rfl mSet0 ?_
    have hT : mFolT V f g = 1 := by unfold mFolT; (repeat' split) <;> omega
    refine gm_run X 1 (pc1 := 29) (ls1 := [_, _, _]) (st1 := [_]) rfl ?_
    refine gm_get X rfl fX4_80 (v := .int (iI 1)) rfl ?_
    refine gm_br X (pc1 := 37) (st1 := []) rfl (fun b9 => ?_) (fun b9 => ?_)
    · have c32 : (1 : Int) ≤ (0 : Int) := cLe b9 (by omega) (by omega)
      exact absurd c32 (by omega)
    · have c32 : (0 : Int) < (1 : Int) := cNe b9 (by omega) (by omega)
      refine gm_run X 1 (pc1 := 36) (ls1 := [_, _, _]) (st1 := [_]) rfl ?_
      exact gm_zret X hQ rfl rfl rfl (by rw [bI_0 (p := mFolB V f g) (by omega)]) (by unfold mFolV; rw [hT]; (repeat (first | rw [if_pos (by omega)] | rw [if_neg (by omega)])); all_goals (try rfl))
  · have c5 : isGr f := bI_t b9
    refine gm_run X 1 (pc1 := 9) (ls1 := [_, _, _]) (st1 := [_, _]) rfl ?_
    refine gm_callS X rfl mX4_103 (fun M => mc_isGrain z.2.1 EV M (g := g) (by omega)) rfl rfl (Nat.le_of_ble_eq_true rfl) (gFit.of hR (by decide) (by decide) (by decide)) ?_
    refine gm_eq (st' := [.int (iI (bI (isGr g))), .ref am]) rfl rfl ?_
    refine gm_br X (pc1 := 24) (st1 := [_]) rfl (fun b9 => ?_) (fun b9 => ?_)
    · have c12 : ¬ (isGr g) := bI_f b9
      refine gm_run X 1 (pc1 := 25) (ls1 := [_, _, _]) (st1 := [_, _]) rfl ?_
      refine gm_put X (v := 1) rfl fX4_80 (by decide) rfl mSet0 ?_
      have hT : mFolT V f g = 1 := by unfold mFolT; (repeat' split) <;> omega
      refine gm_run X 1 (pc1 := 29) (ls1 := [_, _, _]) (st1 := [_]) rfl ?_
      refine gm_get X rfl fX4_80 (v := .int (iI 1)) rfl ?_
      refine gm_br X (pc1 := 37) (st1 := []) rfl (fun b9 => ?_) (fun b9 => ?_)
      · have c32 : (1 : Int) ≤ (0 : Int) := cLe b9 (by omega) (by omega)
        exact absurd c32 (by omega)
      · have c32 : (0 : Int) < (1 : Int) := cNe b9 (by omega) (by omega)
        refine gm_run X 1 (pc1 := 36) (ls1 := [_, _, _]) (st1 := [_]) rfl ?_
        exact gm_zret X hQ rfl rfl rfl (by rw [bI_0 (p := mFolB V f g) (by omega)]) (by unfold mFolV; rw [hT]; (repeat (first | rw [if_pos (by omega)] | rw [if_neg (by omega)])); all_goals (try rfl))
    · have c12 : isGr g := bI_t b9
      refine gm_run X 2 (pc1 := 17) (ls1 := [_, _, _]) (st1 := [_, _, _]) rfl ?_
      refine gm_br X (pc1 := 24) (st1 := [_]) rfl (fun b9 => ?_) (fun b9 => ?_)
      · have c17 : f = g := cEq b9 (by omega) (by omega)
        refine gm_run X 1 (pc1 := 25) (ls1 := [_, _, _]) (st1 := [_, _]) rfl ?_
        refine gm_put X (v := 1) rfl fX4_80 (by decide) rfl mSet0 ?_
        have hT : mFolT V f g = 1 := by unfold mFolT; (repeat' split) <;> omega
        refine gm_run X 1 (pc1 := 29) (ls1 := [_, _, _]) (st1 := [_]) rfl ?_
        refine gm_get X rfl fX4_80 (v := .int (iI 1)) rfl ?_
        refine gm_br X (pc1 := 37) (st1 := []) rfl (fun b9 => ?_) (fun b9 => ?_)
        · have c32 : (1 : Int) ≤ (0 : Int) := cLe b9 (by omega) (by omega)
          exact absurd c32 (by omega)
        · have c32 : (0 : Int) < (1 : Int) := cNe b9 (by omega) (by omega)
          refine gm_run X 1 (pc1 := 36) (ls1 := [_, _, _]) (st1 := [_]) rfl ?_
          exact gm_zret X hQ rfl rfl rfl (by rw [bI_0 (p := mFolB V f g) (by omega)]) (by unfold mFolV; rw [hT]; (repeat (first | rw [if_pos (by omega)] | rw [if_neg (by omega)])); all_goals (try rfl))
      · have c17 : ¬ f = g := cNq b9 (by omega) (by omega)
        refine gm_run X 2 (pc1 := 25) (ls1 := [_, _, _]) (st1 := [_, _]) rfl ?_
        refine gm_put X (v := 0) rfl fX4_80 (by decide) rfl mSet0 ?_
        have hT : mFolT V f g = 0 := by unfold mFolT; (repeat' split) <;> omega
        refine gm_run X 1 (pc1 := 29) (ls1 := [_, _, _]) (st1 := [_]) rfl ?_
        refine gm_get X rfl fX4_80 (v := .int (iI 0)) rfl ?_
        refine gm_br X (pc1 := 37) (st1 := []) rfl (fun b9 => ?_) (fun b9 => ?_)
        · have c32 : (0 : Int) ≤ (0 : Int) := cLe b9 (by omega) (by omega)
          refine gm_run X 1 (pc1 := 38) (ls1 := [_, _, _]) (st1 := [_]) rfl ?_
          refine gm_get X rfl fX4_25 (v := .ref (ad 8)) rfl ?_
          refine gm_run X 2 (pc1 := 43) (ls1 := [_, _, _]) (st1 := [_, _, _, _]) rfl ?_
          have b43 := mI8 hI (j := f) (by omega) (by omega)
          have x43 := fXor_r (a := V 8 f.toNat) (n := g) (by omega) (by omega)
          refine gm_ald X 8 (x := f) (v := (V 8 f.toNat)) rfl rfl (by decide) (by show (0:Int) ≤ f ∧ f < 4; omega) (rfl) ?_
          refine gm_run X 4 (pc1 := 48) (ls1 := [_, _, _]) (st1 := [_, _, _]) rfl ?_
          refine gm_eq (ls' := [some (.ref am), some (.int (iI f)), some (.int (iI g))]) (st' := [.int (iI (fXor (V 8 f.toNat) g)), .int (iI f), .ref (ad 8)]) (by simp only [iI_add, iI_sub, iI_mul, iI_neg, fx_eq (a := (V 8 f.toNat)) (n := g) (by omega) (by omega)]) (by simp only [iI_add, iI_sub, iI_mul, iI_neg, fx_eq (a := (V 8 f.toNat)) (n := g) (by omega) (by omega)]) ?_
          refine gm_ast X 8 (x := f) (v := (fXor (V 8 f.toNat) g)) rfl rfl (by decide) (by show (0:Int) ≤ f ∧ f < 4; omega) ?_
          refine gm_run X 1 (pc1 := 50) (ls1 := [_, _, _]) (st1 := [_]) rfl ?_
          refine gm_get X rfl fX4_25 (v := .ref (ad 8)) rfl ?_
          refine gm_run X 1 (pc1 := 54) (ls1 := [_, _, _]) (st1 := [_, _]) rfl ?_
          refine gm_ald X 8 (x := f) (v := (fXor (V 8 f.toNat) g)) rfl rfl (by decide) (by show (0:Int) ≤ f ∧ f < 4; omega) (by first | rfl | simp [vS]) ?_
          refine gm_run X 4 (pc1 := 59) (ls1 := [_, _, _]) (st1 := [_]) rfl ?_
          refine gm_eq (ls' := [some (.ref am), some (.int (iI f)), some (.int (iI g))]) (st' := [.int (iI (fBit (fXor (V 8 f.toNat) g) g))]) (by simp only [iI_add, iI_sub, iI_mul, iI_neg, fb_eq (a := (fXor (V 8 f.toNat) g)) (n := g) (by omega) (by omega)]) (by simp only [iI_add, iI_sub, iI_mul, iI_neg, fb_eq (a := (fXor (V 8 f.toNat) g)) (n := g) (by omega) (by omega)]) ?_
          refine gm_run X 1 (pc1 := 60) (ls1 := [_, _, _]) (st1 := [_, _]) rfl ?_
          have r60 := fBit_r (fXor (V 8 f.toNat) g) g
          refine gm_br X (pc1 := 67) (st1 := []) rfl (fun b9 => ?_) (fun b9 => ?_)
          · have c60 : ¬ (fBit (fXor (V 8 f.toNat) g) g) = 1 := cNq b9 (by omega) (by omega)
            refine gm_run X 1 (pc1 := 68) (ls1 := [_, _, _]) (st1 := [_]) rfl ?_
            exact gm_zret X hQ rfl rfl rfl (by rw [bI_0 (p := mFolB V f g) (by omega)]) (by unfold mFolV; rw [hT]; (repeat (first | rw [if_pos (by omega)] | rw [if_neg (by omega)])); all_goals (try rfl))
          · have c60 : (fBit (fXor (V 8 f.toNat) g) g) = 1 := cEq b9 (by omega) (by omega)
            refine gm_run X 2 (pc1 := 68) (ls1 := [_, _, _]) (st1 := [_]) rfl ?_
            exact gm_zret X hQ rfl rfl rfl (by rw [bI_1 (p := mFolB V f g) (by omega)]) (by unfold mFolV; rw [hT]; (repeat (first | rw [if_pos (by omega)] | rw [if_neg (by omega)])); all_goals (try rfl))
        · have c32 : (0 : Int) < (0 : Int) := cNe b9 (by omega) (by omega)
          exact absurd c32 (by omega)
set_option maxHeartbeats 1000000 in
theorem mc_callNow (l : Launch) (EV : gEV) (am : Nat) (ad : Nat → Nat) {V : gV} {c : Int} (hc : inR c) (hI : mI V) : MC l yX4_callNow cX4_callNow 4 (some .int) 1 EV am ad [.int (iI c)] V (some (.int (iI (mCN V c (V 11 0).toNat)))) (V) := by
  intro M0 hM0
  refine g_body tbX4_callNow tkX4_callNow (by decide) (by intro v hv; simp only [List.mem_cons, List.not_mem_nil, or_false] at hv; rcases hv with rfl | rfl <;> rfl) (Nat.le_of_ble_eq_true rfl) (fun z Q X hl hR hQ hE => ?_)
  subst hl
  have hs := mIs hI
  have loop : ∀ (j k : Nat), (k : Int) + j = V 11 0 → gMd z (cX4_callNow, yX4_callNow.cls, 4, (some .int), tbX4_callNow, yX4_callNow.name) EV Q M0 am ad V 4 [some (.ref am), some (.int (iI c)), some (.int (iI (mCN V c k))), some (.int (iI (k : Int)))] [] := by
    intro j
    induction j with
    | zero =>
      intro k hk
      have hr := mCN_r V c k
      refine gm_run X 2 (pc1 := 6) (ls1 := [_, _, _, _]) (st1 := [_, _]) rfl ?_
      refine gm_get X rfl fX4_119 (v := .int (iI (V 11 0))) rfl ?_
      refine gm_br X (pc1 := 43) (st1 := []) rfl (fun b9 => ?_) (fun b9 => ?_)
      · have c9 : (V 11 0) ≤ (k : Int) := cLe b9 (by omega) (by omega)
        refine gm_run X 1 (pc1 := 44) (ls1 := [_, _, _, _]) (st1 := [_]) rfl ?_
        have e9 : k = (V 11 0).toNat := by omega
        subst e9
        exact gm_ret X hQ rfl rfl rfl rfl
      · have c9 : (k : Int) < (V 11 0) := cNe b9 (by omega) (by omega)
        exact absurd c9 (by omega)
    | succ j ih =>
      intro k hk
      have hr := mCN_r V c k
      refine gm_run X 2 (pc1 := 6) (ls1 := [_, _, _, _]) (st1 := [_, _]) rfl ?_
      refine gm_get X rfl fX4_119 (v := .int (iI (V 11 0))) rfl ?_
      refine gm_br X (pc1 := 43) (st1 := []) rfl (fun b9 => ?_) (fun b9 => ?_)
      · have c9 : (V 11 0) ≤ (k : Int) := cLe b9 (by omega) (by omega)
        exact absurd c9 (by omega)
      · have c9 : (k : Int) < (V 11 0) := cNe b9 (by omega) (by omega)
        refine gm_run X 1 (pc1 := 13) (ls1 := [_, _, _, _]) (st1 := [_]) rfl ?_
        refine gm_get X rfl fX4_40 (v := .ref (ad 15)) rfl ?_
        refine gm_run X 1 (pc1 := 17) (ls1 := [_, _, _, _]) (st1 := [_, _]) rfl ?_
        refine gm_zald X 15 (x := (k : Int)) (v := (V 15 (k : Int).toNat)) rfl rfl (by decide) (by show (0:Int) ≤ (k : Int) ∧ (k : Int) < 60; omega) (rfl) ?_
        have b17 := mI15 hI (j := (k : Int)) (by omega) (by omega)
        refine gm_br X (pc1 := 35) (st1 := []) rfl (fun b9 => ?_) (fun b9 => ?_)
        · have c18 : (V 15 (k : Int).toNat) = 0 := cEq b9 (by omega) (by omega)
          refine gm_run X 4 (pc1 := 4) (ls1 := [_, _, _, _]) (st1 := []) rfl ?_
          refine gm_eq (ls' := [some (.ref am), some (.int (iI c)), some (.int (iI (mCN V c k))), some (.int (iI ((k : Int) + 1)))]) (st' := []) (by simp only [iI_add, iI_sub, iI_mul, iI_neg]) (by simp only [iI_add, iI_sub, iI_mul, iI_neg]) ?_
          have e : mCN V c (k + 1) = (mCN V c k) := by rw [mCN]; first | rw [if_pos (by omega)] | rw [if_neg (by omega)]
          have h9 := ih (k + 1) (by omega)
          rw [e] at h9
          exact h9
        · have c18 : ¬ (V 15 (k : Int).toNat) = 0 := cNq b9 (by omega) (by omega)
          refine gm_run X 1 (pc1 := 22) (ls1 := [_, _, _, _]) (st1 := [_]) rfl ?_
          refine gm_get X rfl fX4_34 (v := .ref (ad 13)) rfl ?_
          refine gm_run X 1 (pc1 := 26) (ls1 := [_, _, _, _]) (st1 := [_, _]) rfl ?_
          refine gm_ald X 13 (x := (k : Int)) (v := (V 13 (k : Int).toNat)) rfl rfl (by decide) (by show (0:Int) ≤ (k : Int) ∧ (k : Int) < 60; omega) (rfl) ?_
          have b26 := mI13 hI (j := (k : Int)) (by omega) (by omega)
          refine gm_run X 1 (pc1 := 28) (ls1 := [_, _, _, _]) (st1 := [_, _]) rfl ?_
          refine gm_br X (pc1 := 35) (st1 := []) rfl (fun b9 => ?_) (fun b9 => ?_)
          · have c28 : ¬ (V 13 (k : Int).toNat) = c := cNq b9 (by omega) (by omega)
            refine gm_run X 4 (pc1 := 4) (ls1 := [_, _, _, _]) (st1 := []) rfl ?_
            refine gm_eq (ls' := [some (.ref am), some (.int (iI c)), some (.int (iI (mCN V c k))), some (.int (iI ((k : Int) + 1)))]) (st' := []) (by simp only [iI_add, iI_sub, iI_mul, iI_neg]) (by simp only [iI_add, iI_sub, iI_mul, iI_neg]) ?_
            have e : mCN V c (k + 1) = (mCN V c k) := by rw [mCN]; first | rw [if_pos (by omega)] | rw [if_neg (by omega)]
            have h9 := ih (k + 1) (by omega)
            rw [e] at h9
            exact h9
          · have c28 : (V 13 (k : Int).toNat) = c := cEq b9 (by omega) (by omega)
            refine gm_run X 5 (pc1 := 4) (ls1 := [_, _, _, _]) (st1 := []) rfl ?_
            refine gm_eq (ls' := [some (.ref am), some (.int (iI c)), some (.int (iI (k : Int))), some (.int (iI ((k : Int) + 1)))]) (st' := []) (by simp only [iI_add, iI_sub, iI_mul, iI_neg]) (by simp only [iI_add, iI_sub, iI_mul, iI_neg]) ?_
            have e : mCN V c (k + 1) = (k : Int) := by rw [mCN]; first | rw [if_pos (by omega)] | rw [if_neg (by omega)]
            have h9 := ih (k + 1) (by omega)
            rw [e] at h9
            exact h9
  refine (?_ : gMd z _ EV Q M0 am ad V 0 [some (.ref am), some (.int (iI c)), none, none] []) M0 hM0 gFr.rf
  refine gm_run X 4 (pc1 := 4) (ls1 := [_, _, _, _]) (st1 := []) rfl ?_
  exact loop (V 11 0).toNat 0 (by omega)
set_option maxHeartbeats 1000000 in
theorem mc_callsTo (l : Launch) (EV : gEV) (am : Nat) (ad : Nat → Nat) {V : gV} {c : Int} (hc : inR c) (hI : mI V) : MC l yX4_callsTo cX4_callsTo 4 (some .int) 1 EV am ad [.int (iI c)] V (some (.int (iI (mCT V c (V 11 0).toNat)))) (V) := by
  intro M0 hM0
  refine g_body tbX4_callsTo tkX4_callsTo (by decide) (by intro v hv; simp only [List.mem_cons, List.not_mem_nil, or_false] at hv; rcases hv with rfl | rfl <;> rfl) (Nat.le_of_ble_eq_true rfl) (fun z Q X hl hR hQ hE => ?_)
  subst hl
  have hs := mIs hI
  have loop : ∀ (j k : Nat), (k : Int) + j = V 11 0 → gMd z (cX4_callsTo, yX4_callsTo.cls, 4, (some .int), tbX4_callsTo, yX4_callsTo.name) EV Q M0 am ad V 4 [some (.ref am), some (.int (iI c)), some (.int (iI (mCT V c k))), some (.int (iI (k : Int)))] [] := by
    intro j
    induction j with
    | zero =>
      intro k hk
      have hr := mCT_r V c k
      refine gm_run X 2 (pc1 := 6) (ls1 := [_, _, _, _]) (st1 := [_, _]) rfl ?_
      refine gm_get X rfl fX4_119 (v := .int (iI (V 11 0))) rfl ?_
      refine gm_br X (pc1 := 45) (st1 := []) rfl (fun b9 => ?_) (fun b9 => ?_)
      · have c9 : (V 11 0) ≤ (k : Int) := cLe b9 (by omega) (by omega)
        refine gm_run X 1 (pc1 := 46) (ls1 := [_, _, _, _]) (st1 := [_]) rfl ?_
        have e9 : k = (V 11 0).toNat := by omega
        subst e9
        exact gm_ret X hQ rfl rfl rfl rfl
      · have c9 : (k : Int) < (V 11 0) := cNe b9 (by omega) (by omega)
        exact absurd c9 (by omega)
    | succ j ih =>
      intro k hk
      have hr := mCT_r V c k
      refine gm_run X 2 (pc1 := 6) (ls1 := [_, _, _, _]) (st1 := [_, _]) rfl ?_
      refine gm_get X rfl fX4_119 (v := .int (iI (V 11 0))) rfl ?_
      refine gm_br X (pc1 := 45) (st1 := []) rfl (fun b9 => ?_) (fun b9 => ?_)
      · have c9 : (V 11 0) ≤ (k : Int) := cLe b9 (by omega) (by omega)
        exact absurd c9 (by omega)
      · have c9 : (k : Int) < (V 11 0) := cNe b9 (by omega) (by omega)
        refine gm_run X 2 (pc1 := 14) (ls1 := [_, _, _, _]) (st1 := [_, _]) rfl ?_
        refine gm_get X rfl fX4_40 (v := .ref (ad 15)) rfl ?_
        refine gm_run X 1 (pc1 := 18) (ls1 := [_, _, _, _]) (st1 := [_, _, _]) rfl ?_
        refine gm_zald X 15 (x := (k : Int)) (v := (V 15 (k : Int).toNat)) rfl rfl (by decide) (by show (0:Int) ≤ (k : Int) ∧ (k : Int) < 60; omega) (rfl) ?_
        have b18 := mI15 hI (j := (k : Int)) (by omega) (by omega)
        refine gm_br X (pc1 := 36) (st1 := [_]) rfl (fun b9 => ?_) (fun b9 => ?_)
        · have c19 : (V 15 (k : Int).toNat) = 0 := cEq b9 (by omega) (by omega)
          refine gm_run X 5 (pc1 := 4) (ls1 := [_, _, _, _]) (st1 := []) rfl ?_
          refine gm_eq (ls' := [some (.ref am), some (.int (iI c)), some (.int (iI ((mCT V c k) + 0))), some (.int (iI ((k : Int) + 1)))]) (st' := []) (by simp only [iI_add, iI_sub, iI_mul, iI_neg]) (by simp only [iI_add, iI_sub, iI_mul, iI_neg]) ?_
          have e : mCT V c (k + 1) = ((mCT V c k) + 0) := by rw [mCT]; first | rw [if_pos (by omega)] | rw [if_neg (by omega)]
          have h9 := ih (k + 1) (by omega)
          rw [e] at h9
          exact h9
        · have c19 : ¬ (V 15 (k : Int).toNat) = 0 := cNq b9 (by omega) (by omega)
          refine gm_run X 1 (pc1 := 23) (ls1 := [_, _, _, _]) (st1 := [_, _]) rfl ?_
          refine gm_get X rfl fX4_37 (v := .ref (ad 14)) rfl ?_
          refine gm_run X 1 (pc1 := 27) (ls1 := [_, _, _, _]) (st1 := [_, _, _]) rfl ?_
          refine gm_ald X 14 (x := (k : Int)) (v := (V 14 (k : Int).toNat)) rfl rfl (by decide) (by show (0:Int) ≤ (k : Int) ∧ (k : Int) < 60; omega) (rfl) ?_
          have b27 := mI14 hI (j := (k : Int)) (by omega) (by omega)
          refine gm_run X 1 (pc1 := 29) (ls1 := [_, _, _, _]) (st1 := [_, _, _]) rfl ?_
          refine gm_br X (pc1 := 36) (st1 := [_]) rfl (fun b9 => ?_) (fun b9 => ?_)
          · have c29 : ¬ (V 14 (k : Int).toNat) = c := cNq b9 (by omega) (by omega)
            refine gm_run X 5 (pc1 := 4) (ls1 := [_, _, _, _]) (st1 := []) rfl ?_
            refine gm_eq (ls' := [some (.ref am), some (.int (iI c)), some (.int (iI ((mCT V c k) + 0))), some (.int (iI ((k : Int) + 1)))]) (st' := []) (by simp only [iI_add, iI_sub, iI_mul, iI_neg]) (by simp only [iI_add, iI_sub, iI_mul, iI_neg]) ?_
            have e : mCT V c (k + 1) = ((mCT V c k) + 0) := by rw [mCT]; first | rw [if_pos (by omega)] | rw [if_neg (by omega)]
            have h9 := ih (k + 1) (by omega)
            rw [e] at h9
            exact h9
          · have c29 : (V 14 (k : Int).toNat) = c := cEq b9 (by omega) (by omega)
            refine gm_run X 6 (pc1 := 4) (ls1 := [_, _, _, _]) (st1 := []) rfl ?_
            refine gm_eq (ls' := [some (.ref am), some (.int (iI c)), some (.int (iI ((mCT V c k) + 1))), some (.int (iI ((k : Int) + 1)))]) (st' := []) (by simp only [iI_add, iI_sub, iI_mul, iI_neg]) (by simp only [iI_add, iI_sub, iI_mul, iI_neg]) ?_
            have e : mCT V c (k + 1) = ((mCT V c k) + 1) := by rw [mCT]; first | rw [if_pos (by omega)] | rw [if_neg (by omega)]
            have h9 := ih (k + 1) (by omega)
            rw [e] at h9
            exact h9
  refine (?_ : gMd z _ EV Q M0 am ad V 0 [some (.ref am), some (.int (iI c)), none, none] []) M0 hM0 gFr.rf
  refine gm_run X 4 (pc1 := 4) (ls1 := [_, _, _, _]) (st1 := []) rfl ?_
  exact loop (V 11 0).toNat 0 (by omega)
set_option maxHeartbeats 1000000 in
theorem mc_freeBetween (l : Launch) (EV : gEV) (am : Nat) (ad : Nat → Nat) {V : gV} {a : Int} (ha : inR a) {b : Int} (hb : inR b) (hI : mI V) (hab : (0 ≤ a ∧ a ≤ 2) ∧ (0 ≤ b ∧ b ≤ 2) ∧ ¬ a = b) : MC l yX4_freeBetween cX4_freeBetween 4 (some .int) 2 EV am ad [.int (iI a), .int (iI b)] V (some (.int (iI (mFB V a b)))) (V) := by
  intro M0 hM0
  refine g_body tbX4_freeBetween tkX4_freeBetween (by decide) (by intro v hv; simp only [List.mem_cons, List.not_mem_nil, or_false] at hv; rcases hv with rfl | rfl | rfl <;> rfl) (Nat.le_of_ble_eq_true rfl) (fun z Q X hl hR hQ hE => ?_)
  subst hl
  refine (?_ : gMd z _ EV Q M0 am ad V 0 [some (.ref am), some (.int (iI a)), some (.int (iI b)), none] []) M0 hM0 gFr.rf
  have hs := mIs hI
  refine gm_run X 2 (pc1 := 2) (ls1 := [_, _, _, _]) (st1 := [_, _]) rfl ?_
  refine gm_callS X rfl mX4_125 (fun M => mc_between z.2.1 EV M (a := a) (b := b) (by omega) (by omega)) rfl rfl (Nat.le_of_ble_eq_true rfl) (gFit.of hR (by decide) (by decide) (by decide)) ?_
  refine gm_eq (st' := [.int (iI (2 * ((a + b) - 1)))]) rfl rfl ?_
  refine gm_run X 2 (pc1 := 7) (ls1 := [_, _, _, _]) (st1 := [_]) rfl ?_
  refine gm_get X rfl fX4_28 (v := .ref (ad 9)) rfl ?_
  refine gm_run X 1 (pc1 := 11) (ls1 := [_, _, _, _]) (st1 := [_, _]) rfl ?_
  refine gm_ald X 9 (x := (2 * ((a + b) - 1))) (v := (V 9 (2 * ((a + b) - 1)).toNat)) rfl rfl (by decide) (by show (0:Int) ≤ (2 * ((a + b) - 1)) ∧ (2 * ((a + b) - 1)) < 6; omega) (rfl) ?_
  have b11 := mI9 hI (j := (2 * ((a + b) - 1))) (by omega) (by omega)
  refine gm_run X 1 (pc1 := 13) (ls1 := [_, _, _, _]) (st1 := [_, _]) rfl ?_
  refine gm_br X (pc1 := 20) (st1 := []) rfl (fun b9 => ?_) (fun b9 => ?_)
  · have c13 : ¬ (V 9 (2 * ((a + b) - 1)).toNat) = (-1) := cNq b9 (by omega) (by omega)
    refine gm_run X 1 (pc1 := 21) (ls1 := [_, _, _, _]) (st1 := [_]) rfl ?_
    refine gm_get X rfl fX4_28 (v := .ref (ad 9)) rfl ?_
    refine gm_run X 3 (pc1 := 27) (ls1 := [_, _, _, _]) (st1 := [_, _]) rfl ?_
    refine gm_eq (ls' := [some (.ref am), some (.int (iI a)), some (.int (iI b)), some (.int (iI (2 * ((a + b) - 1))))]) (st' := [.int (iI ((2 * ((a + b) - 1)) + 1)), .ref (ad 9)]) (by simp only [iI_add, iI_sub, iI_mul, iI_neg]) (by simp only [iI_add, iI_sub, iI_mul, iI_neg]) ?_
    refine gm_ald X 9 (x := ((2 * ((a + b) - 1)) + 1)) (v := (V 9 ((2 * ((a + b) - 1)) + 1).toNat)) rfl rfl (by decide) (by show (0:Int) ≤ ((2 * ((a + b) - 1)) + 1) ∧ ((2 * ((a + b) - 1)) + 1) < 6; omega) (rfl) ?_
    have b27 := mI9 hI (j := ((2 * ((a + b) - 1)) + 1)) (by omega) (by omega)
    refine gm_run X 1 (pc1 := 29) (ls1 := [_, _, _, _]) (st1 := [_, _]) rfl ?_
    refine gm_br X (pc1 := 38) (st1 := []) rfl (fun b9 => ?_) (fun b9 => ?_)
    · have c29 : ¬ (V 9 ((2 * ((a + b) - 1)) + 1).toNat) = (-1) := cNq b9 (by omega) (by omega)
      refine gm_run X 1 (pc1 := 39) (ls1 := [_, _, _, _]) (st1 := [_]) rfl ?_
      exact gm_ret X hQ rfl rfl (by unfold mFB; (repeat (first | rw [if_pos (by omega)] | rw [if_neg (by omega)])); all_goals (try rfl)) rfl
    · have c29 : (V 9 ((2 * ((a + b) - 1)) + 1).toNat) = (-1) := cEq b9 (by omega) (by omega)
      refine gm_run X 4 (pc1 := 39) (ls1 := [_, _, _, _]) (st1 := [_]) rfl ?_
      refine gm_eq (ls' := [some (.ref am), some (.int (iI a)), some (.int (iI b)), some (.int (iI (2 * ((a + b) - 1))))]) (st' := [.int (iI ((2 * ((a + b) - 1)) + 1))]) (by simp only [iI_add, iI_sub, iI_mul, iI_neg]) (by simp only [iI_add, iI_sub, iI_mul, iI_neg]) ?_
      exact gm_ret X hQ rfl rfl (by unfold mFB; (repeat (first | rw [if_pos (by omega)] | rw [if_neg (by omega)])); all_goals (try rfl)) rfl
  · have c13 : (V 9 (2 * ((a + b) - 1)).toNat) = (-1) := cEq b9 (by omega) (by omega)
    refine gm_run X 2 (pc1 := 39) (ls1 := [_, _, _, _]) (st1 := [_]) rfl ?_
    exact gm_ret X hQ rfl rfl (by unfold mFB; (repeat (first | rw [if_pos (by omega)] | rw [if_neg (by omega)])); all_goals (try rfl)) rfl
set_option maxHeartbeats 1000000 in
theorem mc_takesWay (l : Launch) (EV : gEV) (am : Nat) (ad : Nat → Nat) {V : gV} {f : Int} (hf : inR f) {t : Int} (ht : inR t) (hI : mI V) (hft : (0 ≤ f ∧ f ≤ 2) ∧ 0 ≤ t ∧ t ≤ 2) : MC l yX4_takesWay cX4_takesWay 7 (some .boolean) 3 EV am ad [.int (iI f), .int (iI t)] V (some (.int (iI (bI (mTWb V f t))))) (mTWv V f t) := by
  intro M0 hM0
  refine g_body tbX4_takesWay tkX4_takesWay (by decide) (by intro v hv; simp only [List.mem_cons, List.not_mem_nil, or_false] at hv; rcases hv with rfl | rfl | rfl <;> rfl) (Nat.le_of_ble_eq_true rfl) (fun z Q X hl hR hQ hE => ?_)
  subst hl
  refine (?_ : gMd z _ EV Q M0 am ad V 0 [some (.ref am), some (.int (iI f)), some (.int (iI t)), none, none, none, none] []) M0 hM0 gFr.rf
  have hs := mIs hI
  refine gm_run X 2 (pc1 := 2) (ls1 := [_, _, _, _, _, _, _]) (st1 := [_, _]) rfl ?_
  refine gm_br X (pc1 := 7) (st1 := []) rfl (fun b9 => ?_) (fun b9 => ?_)
  · have c2 : ¬ f = t := cNq b9 (by omega) (by omega)
    refine gm_run X 3 (pc1 := 10) (ls1 := [_, _, _, _, _, _, _]) (st1 := [_, _, _]) rfl ?_
    refine gm_callV X rfl mX4_129 (mc_freeBetween z.2.1 EV am ad (a := f) (b := t) (by omega) (by omega) hI (by omega)) rfl rfl (Nat.le_of_ble_eq_true rfl) (gFit.of hR (by decide) (by decide) (by decide)) ?_
    refine gm_eq (st' := [.int (iI (mFB V f t))]) rfl rfl ?_
    have r10 := mFB_r V (a := f) (b := t) (by omega)
    refine gm_run X 10 (pc1 := 25) (ls1 := [_, _, _, _, _, _, _]) (st1 := [_, _, _]) rfl ?_
    refine gm_eq (ls' := [some (.ref am), some (.int (iI f)), some (.int (iI t)), some (.int (iI (mFB V f t))), some (.int (iI ((3 - f) - t))), none, none]) (st' := [.int (iI ((3 - f) - t)), .int (iI f), .ref am]) (by simp only [iI_add, iI_sub, iI_mul, iI_neg]) (by simp only [iI_add, iI_sub, iI_mul, iI_neg]) ?_
    refine gm_callV X rfl mX4_129 (mc_freeBetween z.2.1 EV am ad (a := f) (b := ((3 - f) - t)) (by omega) (by omega) hI (by omega)) rfl rfl (Nat.le_of_ble_eq_true rfl) (gFit.of hR (by decide) (by decide) (by decide)) ?_
    refine gm_eq (st' := [.int (iI (mFB V f ((3 - f) - t)))]) rfl rfl ?_
    have r25 := mFB_r V (a := f) (b := ((3 - f) - t)) (by omega)
    refine gm_run X 4 (pc1 := 34) (ls1 := [_, _, _, _, _, _, _]) (st1 := [_, _, _]) rfl ?_
    refine gm_callV X rfl mX4_129 (mc_freeBetween z.2.1 EV am ad (a := ((3 - f) - t)) (b := t) (by omega) (by omega) hI (by omega)) rfl rfl (Nat.le_of_ble_eq_true rfl) (gFit.of hR (by decide) (by decide) (by decide)) ?_
    refine gm_eq (st' := [.int (iI (mFB V ((3 - f) - t) t))]) rfl rfl ?_
    have r34 := mFB_r V (a := ((3 - f) - t)) (b := t) (by omega)
    refine gm_run X 3 (pc1 := 41) (ls1 := [_, _, _, _, _, _, _]) (st1 := [_, _]) rfl ?_
    refine gm_br X (pc1 := 56) (st1 := []) rfl (fun b9 => ?_) (fun b9 => ?_)
    · have c41 : (mFB V f t) = (-1) := cEq b9 (by omega) (by omega)
      refine gm_run X 2 (pc1 := 59) (ls1 := [_, _, _, _, _, _, _]) (st1 := [_, _]) rfl ?_
      refine gm_br X (pc1 := 68) (st1 := []) rfl (fun b9 => ?_) (fun b9 => ?_)
      · have c59 : (mFB V f ((3 - f) - t)) = (-1) := cEq b9 (by omega) (by omega)
        refine gm_run X 1 (pc1 := 69) (ls1 := [_, _, _, _, _, _, _]) (st1 := [_]) rfl ?_
        exact gm_zret X hQ rfl rfl rfl (by rw [bI_0 (p := mTWb V f t) (by omega)]) (by unfold mTWv; (repeat (first | rw [if_pos (by omega)] | rw [if_neg (by omega)])); all_goals (try rfl))
      · have c59 : ¬ (mFB V f ((3 - f) - t)) = (-1) := cNq b9 (by omega) (by omega)
        refine gm_run X 2 (pc1 := 65) (ls1 := [_, _, _, _, _, _, _]) (st1 := [_, _]) rfl ?_
        refine gm_br X (pc1 := 70) (st1 := []) rfl (fun b9 => ?_) (fun b9 => ?_)
        · have c65 : ¬ (mFB V ((3 - f) - t) t) = (-1) := cNq b9 (by omega) (by omega)
          refine gm_run X 1 (pc1 := 71) (ls1 := [_, _, _, _, _, _, _]) (st1 := [_]) rfl ?_
          refine gm_get X rfl fX4_28 (v := .ref (ad 9)) rfl ?_
          refine gm_run X 2 (pc1 := 77) (ls1 := [_, _, _, _, _, _, _]) (st1 := [_, _, _]) rfl ?_
          refine gm_get X rfl fX4_119 (v := .int (iI (V 11 0))) rfl ?_
          refine gm_ast X 9 (x := (mFB V f ((3 - f) - t))) (v := (V 11 0)) rfl rfl (by decide) (by show (0:Int) ≤ (mFB V f ((3 - f) - t)) ∧ (mFB V f ((3 - f) - t)) < 6; omega) ?_
          refine gm_run X 1 (pc1 := 82) (ls1 := [_, _, _, _, _, _, _]) (st1 := [_]) rfl ?_
          refine gm_get X rfl fX4_28 (v := .ref (ad 9)) rfl ?_
          refine gm_run X 2 (pc1 := 88) (ls1 := [_, _, _, _, _, _, _]) (st1 := [_, _, _]) rfl ?_
          refine gm_get X rfl fX4_119 (v := .int (iI (V 11 0))) rfl ?_
          refine gm_ast X 9 (x := (mFB V ((3 - f) - t) t)) (v := (V 11 0)) rfl rfl (by decide) (by show (0:Int) ≤ (mFB V ((3 - f) - t) t) ∧ (mFB V ((3 - f) - t) t) < 6; omega) ?_
          refine gm_run X 1 (pc1 := 93) (ls1 := [_, _, _, _, _, _, _]) (st1 := [_]) rfl ?_
          exact gm_zret X hQ rfl rfl rfl (by rw [bI_1 (p := mTWb V f t) (by omega)]) (by unfold mTWv; (repeat (first | rw [if_pos (by omega)] | rw [if_neg (by omega)])); all_goals (try rfl))
        · have c65 : (mFB V ((3 - f) - t) t) = (-1) := cEq b9 (by omega) (by omega)
          refine gm_run X 1 (pc1 := 69) (ls1 := [_, _, _, _, _, _, _]) (st1 := [_]) rfl ?_
          exact gm_zret X hQ rfl rfl rfl (by rw [bI_0 (p := mTWb V f t) (by omega)]) (by unfold mTWv; (repeat (first | rw [if_pos (by omega)] | rw [if_neg (by omega)])); all_goals (try rfl))
    · have c41 : ¬ (mFB V f t) = (-1) := cNq b9 (by omega) (by omega)
      refine gm_run X 1 (pc1 := 45) (ls1 := [_, _, _, _, _, _, _]) (st1 := [_]) rfl ?_
      refine gm_get X rfl fX4_28 (v := .ref (ad 9)) rfl ?_
      refine gm_run X 2 (pc1 := 50) (ls1 := [_, _, _, _, _, _, _]) (st1 := [_, _, _]) rfl ?_
      refine gm_get X rfl fX4_119 (v := .int (iI (V 11 0))) rfl ?_
      refine gm_ast X 9 (x := (mFB V f t)) (v := (V 11 0)) rfl rfl (by decide) (by show (0:Int) ≤ (mFB V f t) ∧ (mFB V f t) < 6; omega) ?_
      refine gm_run X 1 (pc1 := 55) (ls1 := [_, _, _, _, _, _, _]) (st1 := [_]) rfl ?_
      exact gm_zret X hQ rfl rfl rfl (by rw [bI_1 (p := mTWb V f t) (by omega)]) (by unfold mTWv; (repeat (first | rw [if_pos (by omega)] | rw [if_neg (by omega)])); all_goals (try rfl))
  · have c2 : f = t := cEq b9 (by omega) (by omega)
    refine gm_run X 1 (pc1 := 6) (ls1 := [_, _, _, _, _, _, _]) (st1 := [_]) rfl ?_
    exact gm_zret X hQ rfl rfl rfl (by rw [bI_1 (p := mTWb V f t) (by omega)]) (by unfold mTWv; (repeat (first | rw [if_pos (by omega)] | rw [if_neg (by omega)])); all_goals (try rfl))
set_option maxHeartbeats 1000000 in
theorem mc_call (l : Launch) (EV : gEV) (am : Nat) (ad : Nat → Nat) {V : gV} {c : Int} (hc : inR c) {y : Int} (hy : inR y) (hI : mI V) : MC l yX4_call cX4_call 3 (some .int) 4 EV am ad [.int (iI c), .int (iI y)] V (some (.int (iI (mCall V c y).1))) ((mCall V c y).2) := by
  intro M0 hM0
  refine g_body tbX4_call tkX4_call (by decide) (by intro v hv; simp only [List.mem_cons, List.not_mem_nil, or_false] at hv; rcases hv with rfl | rfl | rfl <;> rfl) (Nat.le_of_ble_eq_true rfl) (fun z Q X hl hR hQ hE => ?_)
  subst hl
  refine (?_ : gMd z _ EV Q M0 am ad V 0 [some (.ref am), some (.int (iI c)), some (.int (iI y))] []) M0 hM0 gFr.rf
  have hs := mIs hI
  refine gm_run X 4 (pc1 := 4) (ls1 := [_, _, _]) (st1 := [_, _, _, _]) rfl ?_
  refine gm_callS X rfl mX4_84 (fun M => mc_in z.2.1 EV M (v := c) (lo := 0) (hi := 5) (by omega) (by omega) (by omega)) rfl rfl (Nat.le_of_ble_eq_true rfl) (gFit.of hR (by decide) (by decide) (by decide)) ?_
  refine gm_eq (st' := [.int (iI (bI (0 ≤ c ∧ c ≤ 5))), .ref am]) rfl rfl ?_
  refine gm_br X (pc1 := 17) (st1 := [_]) rfl (fun b9 => ?_) (fun b9 => ?_)
  · have c7 : ¬ (0 ≤ c ∧ c ≤ 5) := bI_f b9
    refine gm_run X 2 (pc1 := 44) (ls1 := [_, _, _]) (st1 := [_, _]) rfl ?_
    refine gm_put X (v := 1) rfl fX4_80 (by decide) rfl mSet0 ?_
    have hT : mCallT V c y = 1 := by unfold mCallT; (repeat' split) <;> omega
    refine gm_run X 1 (pc1 := 48) (ls1 := [_, _, _]) (st1 := [_]) rfl ?_
    refine gm_get X rfl fX4_80 (v := .int (iI 1)) rfl ?_
    refine gm_br X (pc1 := 56) (st1 := []) rfl (fun b9 => ?_) (fun b9 => ?_)
    · have c51 : (1 : Int) ≤ (0 : Int) := cLe b9 (by omega) (by omega)
      exact absurd c51 (by omega)
    · have c51 : (0 : Int) < (1 : Int) := cNe b9 (by omega) (by omega)
      refine gm_run X 1 (pc1 := 55) (ls1 := [_, _, _]) (st1 := [_]) rfl ?_
      exact gm_ret X hQ rfl rfl (by unfold mCall; rw [hT]; (repeat (first | rw [if_pos (by omega)] | rw [if_neg (by omega)])); all_goals (try rfl)) (by unfold mCall; rw [hT]; (repeat (first | rw [if_pos (by omega)] | rw [if_neg (by omega)])); all_goals (try rfl))
  · have c7 : 0 ≤ c ∧ c ≤ 5 := bI_t b9
    refine gm_run X 1 (pc1 := 11) (ls1 := [_, _, _]) (st1 := [_, _]) rfl ?_
    refine gm_callS X rfl mX4_88 (fun M => mc_isYard z.2.1 EV M (y := y) (by omega)) rfl rfl (Nat.le_of_ble_eq_true rfl) (gFit.of hR (by decide) (by decide) (by decide)) ?_
    refine gm_eq (st' := [.int (iI (bI (isYd y))), .ref am]) rfl rfl ?_
    refine gm_br X (pc1 := 21) (st1 := [_]) rfl (fun b9 => ?_) (fun b9 => ?_)
    · have c14 : isYd y := bI_t b9
      refine gm_run X 2 (pc1 := 23) (ls1 := [_, _, _]) (st1 := [_, _, _]) rfl ?_
      refine gm_callV X rfl mX4_132 (mc_callNow z.2.1 EV am ad (c := c) (by omega) hI) rfl rfl (Nat.le_of_ble_eq_true rfl) (gFit.of hR (by decide) (by decide) (by decide)) ?_
      refine gm_eq (st' := [.int (iI (mCN V c (V 11 0).toNat)), .ref am]) rfl rfl ?_
      have r23 := mCN_r V c (V 11 0).toNat
      refine gm_run X 1 (pc1 := 27) (ls1 := [_, _, _]) (st1 := [_, _, _]) rfl ?_
      refine gm_br X (pc1 := 39) (st1 := [_]) rfl (fun b9 => ?_) (fun b9 => ?_)
      · have c27 : ¬ (mCN V c (V 11 0).toNat) = (-1) := cNq b9 (by omega) (by omega)
        refine gm_run X 2 (pc1 := 44) (ls1 := [_, _, _]) (st1 := [_, _]) rfl ?_
        refine gm_put X (v := 2) rfl fX4_80 (by decide) rfl mSet0 ?_
        have hT : mCallT V c y = 2 := by unfold mCallT; (repeat' split) <;> omega
        refine gm_run X 1 (pc1 := 48) (ls1 := [_, _, _]) (st1 := [_]) rfl ?_
        refine gm_get X rfl fX4_80 (v := .int (iI 2)) rfl ?_
        refine gm_br X (pc1 := 56) (st1 := []) rfl (fun b9 => ?_) (fun b9 => ?_)
        · have c51 : (2 : Int) ≤ (0 : Int) := cLe b9 (by omega) (by omega)
          exact absurd c51 (by omega)
        · have c51 : (0 : Int) < (2 : Int) := cNe b9 (by omega) (by omega)
          refine gm_run X 1 (pc1 := 55) (ls1 := [_, _, _]) (st1 := [_]) rfl ?_
          exact gm_ret X hQ rfl rfl (by unfold mCall; rw [hT]; (repeat (first | rw [if_pos (by omega)] | rw [if_neg (by omega)])); all_goals (try rfl)) (by unfold mCall; rw [hT]; (repeat (first | rw [if_pos (by omega)] | rw [if_neg (by omega)])); all_goals (try rfl))
      · have c27 : (mCN V c (V 11 0).toNat) = (-1) := cEq b9 (by omega) (by omega)
        refine gm_run X 1 (pc1 := 31) (ls1 := [_, _, _]) (st1 := [_, _]) rfl ?_
        refine gm_get X rfl fX4_119 (v := .int (iI (V 11 0))) rfl ?_
        refine gm_run X 1 (pc1 := 36) (ls1 := [_, _, _]) (st1 := [_, _, _]) rfl ?_
        refine gm_br X (pc1 := 43) (st1 := [_]) rfl (fun b9 => ?_) (fun b9 => ?_)
        · have c36 : ¬ (V 11 0) = 60 := cNq b9 (by omega) (by omega)
          refine gm_run X 1 (pc1 := 44) (ls1 := [_, _, _]) (st1 := [_, _]) rfl ?_
          refine gm_put X (v := 0) rfl fX4_80 (by decide) rfl mSet0 ?_
          have hT : mCallT V c y = 0 := by unfold mCallT; (repeat' split) <;> omega
          refine gm_run X 1 (pc1 := 48) (ls1 := [_, _, _]) (st1 := [_]) rfl ?_
          refine gm_get X rfl fX4_80 (v := .int (iI 0)) rfl ?_
          refine gm_br X (pc1 := 56) (st1 := []) rfl (fun b9 => ?_) (fun b9 => ?_)
          · have c51 : (0 : Int) ≤ (0 : Int) := cLe b9 (by omega) (by omega)
            refine gm_run X 2 (pc1 := 58) (ls1 := [_, _, _]) (st1 := [_, _]) rfl ?_
            refine gm_callV X rfl mX4_136 (mc_callsTo z.2.1 EV am ad (c := y) (by omega) (mI_0 hI)) rfl rfl (Nat.le_of_ble_eq_true rfl) (gFit.of hR (by decide) (by decide) (by decide)) ?_
            refine gm_eq (st' := [.int (iI (mCT (vS V 0 0 0) y (V 11 0).toNat))]) rfl rfl ?_
            have r58 := mCT_r (vS V 0 0 0) y (V 11 0).toNat
            refine gm_run X 1 (pc1 := 62) (ls1 := [_, _, _]) (st1 := [_, _]) rfl ?_
            refine gm_get X rfl fX4_31 (v := .ref (ad 10)) rfl ?_
            refine gm_run X 1 (pc1 := 66) (ls1 := [_, _, _]) (st1 := [_, _, _]) rfl ?_
            refine gm_ald X 10 (x := y) (v := (V 10 y.toNat)) rfl rfl (by decide) (by show (0:Int) ≤ y ∧ y < 3; omega) (rfl) ?_
            have b66 := mI10 hI (j := y) (by omega) (by omega)
            refine gm_br X (pc1 := 81) (st1 := []) rfl (fun b9 => ?_) (fun b9 => ?_)
            · have c67 : (V 10 y.toNat) ≤ (mCT (vS V 0 0 0) y (V 11 0).toNat) := cLe b9 (by omega) (by omega)
              refine gm_run X 2 (pc1 := 83) (ls1 := [_, _, _]) (st1 := [_, _]) rfl ?_
              refine gm_get X rfl fX4_142 (v := .int (iI (V 12 0))) rfl ?_
              refine gm_run X 2 (pc1 := 88) (ls1 := [_, _, _]) (st1 := [_, _]) rfl ?_
              refine gm_eq (ls' := [some (.ref am), some (.int (iI c)), some (.int (iI y))]) (st' := [.int (iI ((V 12 0) + 1)), .ref am]) (by simp only [iI_add, iI_sub, iI_mul, iI_neg]) (by simp only [iI_add, iI_sub, iI_mul, iI_neg]) ?_
              refine gm_put X (v := ((V 12 0) + 1)) rfl fX4_142 (by decide) rfl mSet12 ?_
              refine gm_run X 1 (pc1 := 92) (ls1 := [_, _, _]) (st1 := [_]) rfl ?_
              exact gm_ret X hQ rfl rfl (by unfold mCall; rw [hT]; (repeat (first | rw [if_pos (by omega)] | rw [if_neg (by omega)])); all_goals (try rfl)) (by unfold mCall; rw [hT]; (repeat (first | rw [if_pos (by omega)] | rw [if_neg (by omega)])); all_goals (try rfl))
            · have c67 : (mCT (vS V 0 0 0) y (V 11 0).toNat) < (V 10 y.toNat) := cNe b9 (by omega) (by omega)
              refine gm_run X 3 (pc1 := 73) (ls1 := [_, _, _]) (st1 := [_, _, _]) rfl ?_
              refine gm_irem X (x := c) (y := 3) rfl (by omega) (by omega) ?_
              refine gm_run X 1 (pc1 := 75) (ls1 := [_, _, _]) (st1 := [_, _, _]) rfl ?_
              refine gm_callV X rfl mX4_139 (mc_takesWay z.2.1 EV am ad (f := (c % 3)) (t := y) (by omega) (by omega) (mI_0 hI) (by omega)) rfl rfl (Nat.le_of_ble_eq_true rfl) (gFit.of hR (by decide) (by decide) (by decide)) ?_
              refine gm_eq (st' := [.int (iI (bI (mTWb (vS V 0 0 0) (c % 3) y)))]) rfl rfl ?_
              have e11 : (mTWv (vS V 0 0 0) (c % 3) y) 11 0 = V 11 0 := mTWv_k (by decide)
              refine gm_br X (pc1 := 93) (st1 := []) rfl (fun b9 => ?_) (fun b9 => ?_)
              · have c78 : mTWb (vS V 0 0 0) (c % 3) y := bI_t b9
                refine gm_run X 1 (pc1 := 94) (ls1 := [_, _, _]) (st1 := [_]) rfl ?_
                refine gm_get X rfl fX4_34 (v := .ref (ad 13)) rfl ?_
                refine gm_run X 1 (pc1 := 98) (ls1 := [_, _, _]) (st1 := [_, _]) rfl ?_
                refine gm_get X rfl fX4_119 (v := .int (iI ((mTWv (vS V 0 0 0) (c % 3) y) 11 0))) rfl ?_
                refine gm_run X 1 (pc1 := 102) (ls1 := [_, _, _]) (st1 := [_, _, _]) rfl ?_
                refine gm_ast X 13 (x := ((mTWv (vS V 0 0 0) (c % 3) y) 11 0)) (v := c) rfl rfl (by decide) (by show (0:Int) ≤ ((mTWv (vS V 0 0 0) (c % 3) y) 11 0) ∧ ((mTWv (vS V 0 0 0) (c % 3) y) 11 0) < 60; omega) ?_
                refine gm_run X 1 (pc1 := 104) (ls1 := [_, _, _]) (st1 := [_]) rfl ?_
                refine gm_get X rfl fX4_37 (v := .ref (ad 14)) rfl ?_
                refine gm_run X 1 (pc1 := 108) (ls1 := [_, _, _]) (st1 := [_, _]) rfl ?_
                refine gm_get X rfl fX4_119 (v := .int (iI ((mTWv (vS V 0 0 0) (c % 3) y) 11 0))) rfl ?_
                refine gm_run X 1 (pc1 := 112) (ls1 := [_, _, _]) (st1 := [_, _, _]) rfl ?_
                refine gm_ast X 14 (x := ((mTWv (vS V 0 0 0) (c % 3) y) 11 0)) (v := y) rfl rfl (by decide) (by show (0:Int) ≤ ((mTWv (vS V 0 0 0) (c % 3) y) 11 0) ∧ ((mTWv (vS V 0 0 0) (c % 3) y) 11 0) < 60; omega) ?_
                refine gm_run X 1 (pc1 := 114) (ls1 := [_, _, _]) (st1 := [_]) rfl ?_
                refine gm_get X rfl fX4_40 (v := .ref (ad 15)) rfl ?_
                refine gm_run X 1 (pc1 := 118) (ls1 := [_, _, _]) (st1 := [_, _]) rfl ?_
                refine gm_get X rfl fX4_119 (v := .int (iI ((mTWv (vS V 0 0 0) (c % 3) y) 11 0))) rfl ?_
                refine gm_run X 1 (pc1 := 122) (ls1 := [_, _, _]) (st1 := [_, _, _]) rfl ?_
                refine gm_zast X 15 (x := ((mTWv (vS V 0 0 0) (c % 3) y) 11 0)) (v := 1) rfl rfl (by decide) (by show (0:Int) ≤ ((mTWv (vS V 0 0 0) (c % 3) y) 11 0) ∧ ((mTWv (vS V 0 0 0) (c % 3) y) 11 0) < 60; omega) (by omega) ?_
                refine gm_run X 1 (pc1 := 124) (ls1 := [_, _, _]) (st1 := [_]) rfl ?_
                refine gm_get X rfl fX4_44 (v := .ref (ad 16)) rfl ?_
                refine gm_run X 1 (pc1 := 128) (ls1 := [_, _, _]) (st1 := [_, _]) rfl ?_
                refine gm_get X rfl fX4_119 (v := .int (iI ((mTWv (vS V 0 0 0) (c % 3) y) 11 0))) rfl ?_
                refine gm_run X 1 (pc1 := 132) (ls1 := [_, _, _]) (st1 := [_, _, _]) rfl ?_
                refine gm_ast X 16 (x := ((mTWv (vS V 0 0 0) (c % 3) y) 11 0)) (v := (-1)) rfl rfl (by decide) (by show (0:Int) ≤ ((mTWv (vS V 0 0 0) (c % 3) y) 11 0) ∧ ((mTWv (vS V 0 0 0) (c % 3) y) 11 0) < 60; omega) ?_
                refine gm_run X 2 (pc1 := 135) (ls1 := [_, _, _]) (st1 := [_, _]) rfl ?_
                refine gm_get X rfl fX4_119 (v := .int (iI ((mTWv (vS V 0 0 0) (c % 3) y) 11 0))) rfl ?_
                refine gm_run X 2 (pc1 := 140) (ls1 := [_, _, _]) (st1 := [_, _]) rfl ?_
                refine gm_eq (ls' := [some (.ref am), some (.int (iI c)), some (.int (iI y))]) (st' := [.int (iI (((mTWv (vS V 0 0 0) (c % 3) y) 11 0) + 1)), .ref am]) (by simp only [iI_add, iI_sub, iI_mul, iI_neg]) (by simp only [iI_add, iI_sub, iI_mul, iI_neg]) ?_
                refine gm_put X (v := (((mTWv (vS V 0 0 0) (c % 3) y) 11 0) + 1)) rfl fX4_119 (by decide) rfl mSet11 ?_
                refine gm_run X 1 (pc1 := 144) (ls1 := [_, _, _]) (st1 := [_]) rfl ?_
                refine gm_get X rfl fX4_119 (v := .int (iI (((mTWv (vS V 0 0 0) (c % 3) y) 11 0) + 1))) rfl ?_
                refine gm_run X 2 (pc1 := 149) (ls1 := [_, _, _]) (st1 := [_]) rfl ?_
                refine gm_eq (ls' := [some (.ref am), some (.int (iI c)), some (.int (iI y))]) (st' := [.int (iI ((((mTWv (vS V 0 0 0) (c % 3) y) 11 0) + 1) - 1))]) (by simp only [iI_add, iI_sub, iI_mul, iI_neg]) (by simp only [iI_add, iI_sub, iI_mul, iI_neg]) ?_
                exact gm_ret X hQ rfl rfl (by unfold mCall; rw [hT]; (repeat (first | rw [if_pos (by omega)] | rw [if_neg (by omega)])); all_goals (try rfl)) (by unfold mCall; rw [hT]; (repeat (first | rw [if_pos (by omega)] | rw [if_neg (by omega)])); all_goals (try rfl))
              · have c78 : ¬ (mTWb (vS V 0 0 0) (c % 3) y) := bI_f b9
                refine gm_run X 2 (pc1 := 83) (ls1 := [_, _, _]) (st1 := [_, _]) rfl ?_
                refine gm_get X rfl fX4_142 (v := .int (iI ((mTWv (vS V 0 0 0) (c % 3) y) 12 0))) rfl ?_
                refine gm_run X 2 (pc1 := 88) (ls1 := [_, _, _]) (st1 := [_, _]) rfl ?_
                refine gm_eq (ls' := [some (.ref am), some (.int (iI c)), some (.int (iI y))]) (st' := [.int (iI (((mTWv (vS V 0 0 0) (c % 3) y) 12 0) + 1)), .ref am]) (by simp only [iI_add, iI_sub, iI_mul, iI_neg]) (by simp only [iI_add, iI_sub, iI_mul, iI_neg]) ?_
                refine gm_put X (v := (((mTWv (vS V 0 0 0) (c % 3) y) 12 0) + 1)) rfl fX4_142 (by decide) rfl mSet12 ?_
                refine gm_run X 1 (pc1 := 92) (ls1 := [_, _, _]) (st1 := [_]) rfl ?_
                exact gm_ret X hQ rfl rfl (by unfold mCall; rw [hT]; (repeat (first | rw [if_pos (by omega)] | rw [if_neg (by omega)])); all_goals (try rfl)) (by unfold mCall; rw [hT]; (repeat (first | rw [if_pos (by omega)] | rw [if_neg (by omega)])); all_goals (try rfl))
          · have c51 : (0 : Int) < (0 : Int) := cNe b9 (by omega) (by omega)
            exact absurd c51 (by omega)
        · have c36 : (V 11 0) = 60 := cEq b9 (by omega) (by omega)
          refine gm_run X 2 (pc1 := 44) (ls1 := [_, _, _]) (st1 := [_, _]) rfl ?_
          refine gm_put X (v := 2) rfl fX4_80 (by decide) rfl mSet0 ?_
          have hT : mCallT V c y = 2 := by unfold mCallT; (repeat' split) <;> omega
          refine gm_run X 1 (pc1 := 48) (ls1 := [_, _, _]) (st1 := [_]) rfl ?_
          refine gm_get X rfl fX4_80 (v := .int (iI 2)) rfl ?_
          refine gm_br X (pc1 := 56) (st1 := []) rfl (fun b9 => ?_) (fun b9 => ?_)
          · have c51 : (2 : Int) ≤ (0 : Int) := cLe b9 (by omega) (by omega)
            exact absurd c51 (by omega)
          · have c51 : (0 : Int) < (2 : Int) := cNe b9 (by omega) (by omega)
            refine gm_run X 1 (pc1 := 55) (ls1 := [_, _, _]) (st1 := [_]) rfl ?_
            exact gm_ret X hQ rfl rfl (by unfold mCall; rw [hT]; (repeat (first | rw [if_pos (by omega)] | rw [if_neg (by omega)])); all_goals (try rfl)) (by unfold mCall; rw [hT]; (repeat (first | rw [if_pos (by omega)] | rw [if_neg (by omega)])); all_goals (try rfl))
    · have c14 : ¬ (isYd y) := bI_f b9
      refine gm_run X 2 (pc1 := 44) (ls1 := [_, _, _]) (st1 := [_, _]) rfl ?_
      refine gm_put X (v := 1) rfl fX4_80 (by decide) rfl mSet0 ?_
      have hT : mCallT V c y = 1 := by unfold mCallT; (repeat' split) <;> omega
      refine gm_run X 1 (pc1 := 48) (ls1 := [_, _, _]) (st1 := [_]) rfl ?_
      refine gm_get X rfl fX4_80 (v := .int (iI 1)) rfl ?_
      refine gm_br X (pc1 := 56) (st1 := []) rfl (fun b9 => ?_) (fun b9 => ?_)
      · have c51 : (1 : Int) ≤ (0 : Int) := cLe b9 (by omega) (by omega)
        exact absurd c51 (by omega)
      · have c51 : (0 : Int) < (1 : Int) := cNe b9 (by omega) (by omega)
        refine gm_run X 1 (pc1 := 55) (ls1 := [_, _, _]) (st1 := [_]) rfl ?_
        exact gm_ret X hQ rfl rfl (by unfold mCall; rw [hT]; (repeat (first | rw [if_pos (by omega)] | rw [if_neg (by omega)])); all_goals (try rfl)) (by unfold mCall; rw [hT]; (repeat (first | rw [if_pos (by omega)] | rw [if_neg (by omega)])); all_goals (try rfl))
set_option maxHeartbeats 1000000 in
theorem mc_adds (l : Launch) (EV : gEV) (am : Nat) (ad : Nat → Nat) {V : gV} {b : Int} (hb : inR b) {w : Int} (hw : inR w) (hb2 : 0 ≤ b ∧ b < 40) (hw2 : 0 ≤ w ∧ w < 30) (hm : 0 ≤ V 23 b.toNat ∧ V 23 b.toNat < 30) : MC l yX4_adds cX4_adds 3 none 1 EV am ad [.int (iI b), .int (iI w)] V (none) (mAdds V b w) := by
  intro M0 hM0
  refine g_body tbX4_adds tkX4_adds (by decide) (by intro v hv; simp only [List.mem_cons, List.not_mem_nil, or_false] at hv; rcases hv with rfl | rfl | rfl <;> rfl) (Nat.le_of_ble_eq_true rfl) (fun z Q X hl hR hQ hE => ?_)
  subst hl
  refine (?_ : gMd z _ EV Q M0 am ad V 0 [some (.ref am), some (.int (iI b)), some (.int (iI w))] []) M0 hM0 gFr.rf
  refine gm_run X 1 (pc1 := 1) (ls1 := [_, _, _]) (st1 := [_]) rfl ?_
  refine gm_get X rfl fX4_65 (v := .ref (ad 24)) rfl ?_
  refine gm_run X 4 (pc1 := 9) (ls1 := [_, _, _]) (st1 := [_, _, _]) rfl ?_
  refine gm_eq (ls' := [some (.ref am), some (.int (iI b)), some (.int (iI w))]) (st' := [.ref am, .int (iI (30 * b)), .ref (ad 24)]) (by simp only [iI_add, iI_sub, iI_mul, iI_neg]) (by simp only [iI_add, iI_sub, iI_mul, iI_neg]) ?_
  refine gm_get X rfl fX4_62 (v := .ref (ad 23)) rfl ?_
  refine gm_run X 1 (pc1 := 13) (ls1 := [_, _, _]) (st1 := [_, _, _, _]) rfl ?_
  refine gm_ald X 23 (x := b) (v := (V 23 b.toNat)) rfl rfl (by decide) (by show (0:Int) ≤ b ∧ b < 40; omega) (rfl) ?_
  refine gm_run X 2 (pc1 := 16) (ls1 := [_, _, _]) (st1 := [_, _, _]) rfl ?_
  refine gm_eq (ls' := [some (.ref am), some (.int (iI b)), some (.int (iI w))]) (st' := [.int (iI w), .int (iI ((30 * b) + (V 23 b.toNat))), .ref (ad 24)]) (by simp only [iI_add, iI_sub, iI_mul, iI_neg]) (by simp only [iI_add, iI_sub, iI_mul, iI_neg]) ?_
  refine gm_ast X 24 (x := ((30 * b) + (V 23 b.toNat))) (v := w) rfl rfl (by decide) (by show (0:Int) ≤ ((30 * b) + (V 23 b.toNat)) ∧ ((30 * b) + (V 23 b.toNat)) < 1200; omega) ?_
  refine gm_run X 1 (pc1 := 18) (ls1 := [_, _, _]) (st1 := [_]) rfl ?_
  refine gm_get X rfl fX4_62 (v := .ref (ad 23)) rfl ?_
  refine gm_run X 2 (pc1 := 23) (ls1 := [_, _, _]) (st1 := [_, _, _, _]) rfl ?_
  refine gm_ald X 23 (x := b) (v := (V 23 b.toNat)) rfl rfl (by decide) (by show (0:Int) ≤ b ∧ b < 40; omega) (rfl) ?_
  refine gm_run X 2 (pc1 := 26) (ls1 := [_, _, _]) (st1 := [_, _, _]) rfl ?_
  refine gm_eq (ls' := [some (.ref am), some (.int (iI b)), some (.int (iI w))]) (st' := [.int (iI ((V 23 b.toNat) + 1)), .int (iI b), .ref (ad 23)]) (by simp only [iI_add, iI_sub, iI_mul, iI_neg]) (by simp only [iI_add, iI_sub, iI_mul, iI_neg]) ?_
  refine gm_ast X 23 (x := b) (v := ((V 23 b.toNat) + 1)) rfl rfl (by decide) (by show (0:Int) ≤ b ∧ b < 40; omega) ?_
  refine gm_run X 1 (pc1 := 28) (ls1 := [_, _, _]) (st1 := [_]) rfl ?_
  refine gm_get X rfl fX4_16 (v := .ref (ad 5)) rfl ?_
  refine gm_run X 2 (pc1 := 33) (ls1 := [_, _, _]) (st1 := [_, _, _]) rfl ?_
  refine gm_ast X 5 (x := w) (v := b) rfl rfl (by decide) (by show (0:Int) ≤ w ∧ w < 30; omega) ?_
  exact gm_vret X hQ rfl rfl rfl rfl
set_option maxHeartbeats 1000000 in
theorem mc_confirm (l : Launch) (EV : gEV) (am : Nat) (ad : Nat → Nat) {V : gV} {c : Int} (hc : inR c) (hI : mI V) : MC l yX4_confirm cX4_confirm 3 (some .int) 4 EV am ad [.int (iI c)] V (some (.int (iI (mConf V c).1))) ((mConf V c).2) := by
  intro M0 hM0
  refine g_body tbX4_confirm tkX4_confirm (by decide) (by intro v hv; simp only [List.mem_cons, List.not_mem_nil, or_false] at hv; rcases hv with rfl | rfl <;> rfl) (Nat.le_of_ble_eq_true rfl) (fun z Q X hl hR hQ hE => ?_)
  subst hl
  refine (?_ : gMd z _ EV Q M0 am ad V 0 [some (.ref am), some (.int (iI c)), none] []) M0 hM0 gFr.rf
  have hs := mIs hI
  refine gm_run X 3 (pc1 := 3) (ls1 := [_, _, _]) (st1 := [_, _, _]) rfl ?_
  refine gm_callV X rfl mX4_148 (mc_isCall z.2.1 EV am ad (w := c) (by omega) hI) rfl rfl (Nat.le_of_ble_eq_true rfl) (gFit.of hR (by decide) (by decide) (by decide)) ?_
  refine gm_eq (st' := [.int (iI (bI (isCl V c))), .ref am]) rfl rfl ?_
  refine gm_br X (pc1 := 13) (st1 := [_]) rfl (fun b9 => ?_) (fun b9 => ?_)
  · have c6 : isCl V c := bI_t b9
    refine gm_run X 1 (pc1 := 14) (ls1 := [_, _, _]) (st1 := [_, _]) rfl ?_
    refine gm_get X rfl fX4_40 (v := .ref (ad 15)) rfl ?_
    refine gm_run X 1 (pc1 := 18) (ls1 := [_, _, _]) (st1 := [_, _, _]) rfl ?_
    refine gm_zald X 15 (x := c) (v := (V 15 c.toNat)) rfl rfl (by decide) (by show (0:Int) ≤ c ∧ c < 60; omega) (rfl) ?_
    have b18 := mI15 hI (j := c) (by omega) (by omega)
    refine gm_br X (pc1 := 32) (st1 := [_]) rfl (fun b9 => ?_) (fun b9 => ?_)
    · have c19 : (V 15 c.toNat) = 0 := cEq b9 (by omega) (by omega)
      refine gm_run X 2 (pc1 := 37) (ls1 := [_, _, _]) (st1 := [_, _]) rfl ?_
      refine gm_put X (v := 2) rfl fX4_80 (by decide) rfl mSet0 ?_
      have hT : mConfT V c = 2 := by unfold mConfT; (repeat' split) <;> omega
      refine gm_run X 1 (pc1 := 41) (ls1 := [_, _, _]) (st1 := [_]) rfl ?_
      refine gm_get X rfl fX4_80 (v := .int (iI 2)) rfl ?_
      refine gm_br X (pc1 := 49) (st1 := []) rfl (fun b9 => ?_) (fun b9 => ?_)
      · have c44 : (2 : Int) ≤ (0 : Int) := cLe b9 (by omega) (by omega)
        exact absurd c44 (by omega)
      · have c44 : (0 : Int) < (2 : Int) := cNe b9 (by omega) (by omega)
        refine gm_run X 1 (pc1 := 48) (ls1 := [_, _, _]) (st1 := [_]) rfl ?_
        exact gm_ret X hQ rfl rfl (by unfold mConf; rw [hT]; (repeat (first | rw [if_pos (by omega)] | rw [if_neg (by omega)])); all_goals (try rfl)) (by unfold mConf; rw [hT]; (repeat (first | rw [if_pos (by omega)] | rw [if_neg (by omega)])); all_goals (try rfl))
    · have c19 : ¬ (V 15 c.toNat) = 0 := cNq b9 (by omega) (by omega)
      refine gm_run X 1 (pc1 := 23) (ls1 := [_, _, _]) (st1 := [_, _]) rfl ?_
      refine gm_get X rfl fX4_44 (v := .ref (ad 16)) rfl ?_
      refine gm_run X 1 (pc1 := 27) (ls1 := [_, _, _]) (st1 := [_, _, _]) rfl ?_
      refine gm_ald X 16 (x := c) (v := (V 16 c.toNat)) rfl rfl (by decide) (by show (0:Int) ≤ c ∧ c < 60; omega) (rfl) ?_
      have b27 := mI16 hI (j := c) (by omega) (by omega)
      refine gm_run X 1 (pc1 := 29) (ls1 := [_, _, _]) (st1 := [_, _, _]) rfl ?_
      refine gm_br X (pc1 := 36) (st1 := [_]) rfl (fun b9 => ?_) (fun b9 => ?_)
      · have c29 : ¬ (V 16 c.toNat) = (-1) := cNq b9 (by omega) (by omega)
        refine gm_run X 1 (pc1 := 37) (ls1 := [_, _, _]) (st1 := [_, _]) rfl ?_
        refine gm_put X (v := 0) rfl fX4_80 (by decide) rfl mSet0 ?_
        have hT : mConfT V c = 0 := by unfold mConfT; (repeat' split) <;> omega
        refine gm_run X 1 (pc1 := 41) (ls1 := [_, _, _]) (st1 := [_]) rfl ?_
        refine gm_get X rfl fX4_80 (v := .int (iI 0)) rfl ?_
        refine gm_br X (pc1 := 49) (st1 := []) rfl (fun b9 => ?_) (fun b9 => ?_)
        · have c44 : (0 : Int) ≤ (0 : Int) := cLe b9 (by omega) (by omega)
          refine gm_run X 1 (pc1 := 50) (ls1 := [_, _, _]) (st1 := [_]) rfl ?_
          refine gm_get X rfl fX4_44 (v := .ref (ad 16)) rfl ?_
          refine gm_run X 1 (pc1 := 54) (ls1 := [_, _, _]) (st1 := [_, _]) rfl ?_
          refine gm_ald X 16 (x := c) (v := (V 16 c.toNat)) rfl rfl (by decide) (by show (0:Int) ≤ c ∧ c < 60; omega) (rfl) ?_
          have b54 := mI16 hI (j := c) (by omega) (by omega)
          refine gm_run X 2 (pc1 := 57) (ls1 := [_, _, _]) (st1 := [_]) rfl ?_
          refine gm_get X rfl fX4_47 (v := .ref (ad 18)) rfl ?_
          refine gm_run X 2 (pc1 := 62) (ls1 := [_, _, _]) (st1 := [_, _, _]) rfl ?_
          refine gm_ast X 18 (x := (V 16 c.toNat)) (v := 2) rfl rfl (by decide) (by show (0:Int) ≤ (V 16 c.toNat) ∧ (V 16 c.toNat) < 40; omega) ?_
          refine gm_run X 1 (pc1 := 64) (ls1 := [_, _, _]) (st1 := [_]) rfl ?_
          refine gm_get X rfl fX4_44 (v := .ref (ad 16)) rfl ?_
          refine gm_run X 2 (pc1 := 69) (ls1 := [_, _, _]) (st1 := [_, _, _]) rfl ?_
          refine gm_ast X 16 (x := c) (v := (-1)) rfl rfl (by decide) (by show (0:Int) ≤ c ∧ c < 60; omega) ?_
          refine gm_run X 1 (pc1 := 71) (ls1 := [_, _, _]) (st1 := [_]) rfl ?_
          exact gm_ret X hQ rfl rfl (by unfold mConf; rw [hT]; (repeat (first | rw [if_pos (by omega)] | rw [if_neg (by omega)])); all_goals (try rfl)) (by unfold mConf; rw [hT]; (repeat (first | rw [if_pos (by omega)] | rw [if_neg (by omega)])); all_goals (try rfl))
        · have c44 : (0 : Int) < (0 : Int) := cNe b9 (by omega) (by omega)
          exact absurd c44 (by omega)
      · have c29 : (V 16 c.toNat) = (-1) := cEq b9 (by omega) (by omega)
        refine gm_run X 2 (pc1 := 37) (ls1 := [_, _, _]) (st1 := [_, _]) rfl ?_
        refine gm_put X (v := 2) rfl fX4_80 (by decide) rfl mSet0 ?_
        have hT : mConfT V c = 2 := by unfold mConfT; (repeat' split) <;> omega
        refine gm_run X 1 (pc1 := 41) (ls1 := [_, _, _]) (st1 := [_]) rfl ?_
        refine gm_get X rfl fX4_80 (v := .int (iI 2)) rfl ?_
        refine gm_br X (pc1 := 49) (st1 := []) rfl (fun b9 => ?_) (fun b9 => ?_)
        · have c44 : (2 : Int) ≤ (0 : Int) := cLe b9 (by omega) (by omega)
          exact absurd c44 (by omega)
        · have c44 : (0 : Int) < (2 : Int) := cNe b9 (by omega) (by omega)
          refine gm_run X 1 (pc1 := 48) (ls1 := [_, _, _]) (st1 := [_]) rfl ?_
          exact gm_ret X hQ rfl rfl (by unfold mConf; rw [hT]; (repeat (first | rw [if_pos (by omega)] | rw [if_neg (by omega)])); all_goals (try rfl)) (by unfold mConf; rw [hT]; (repeat (first | rw [if_pos (by omega)] | rw [if_neg (by omega)])); all_goals (try rfl))
  · have c6 : ¬ (isCl V c) := bI_f b9
    refine gm_run X 2 (pc1 := 37) (ls1 := [_, _, _]) (st1 := [_, _]) rfl ?_
    refine gm_put X (v := 1) rfl fX4_80 (by decide) rfl mSet0 ?_
    have hT : mConfT V c = 1 := by unfold mConfT; (repeat' split) <;> omega
    refine gm_run X 1 (pc1 := 41) (ls1 := [_, _, _]) (st1 := [_]) rfl ?_
    refine gm_get X rfl fX4_80 (v := .int (iI 1)) rfl ?_
    refine gm_br X (pc1 := 49) (st1 := []) rfl (fun b9 => ?_) (fun b9 => ?_)
    · have c44 : (1 : Int) ≤ (0 : Int) := cLe b9 (by omega) (by omega)
      exact absurd c44 (by omega)
    · have c44 : (0 : Int) < (1 : Int) := cNe b9 (by omega) (by omega)
      refine gm_run X 1 (pc1 := 48) (ls1 := [_, _, _]) (st1 := [_]) rfl ?_
      exact gm_ret X hQ rfl rfl (by unfold mConf; rw [hT]; (repeat (first | rw [if_pos (by omega)] | rw [if_neg (by omega)])); all_goals (try rfl)) (by unfold mConf; rw [hT]; (repeat (first | rw [if_pos (by omega)] | rw [if_neg (by omega)])); all_goals (try rfl))
set_option maxHeartbeats 1000000 in
theorem mc_isOf (l : Launch) (EV : gEV) (am : Nat) (ad : Nat → Nat) {V : gV} {c : Int} (hc : inR c) {b : Int} (hb : inR b) (hI : mI V) (hc2 : 0 ≤ c ∧ c < V 11 0) (hb2 : 0 ≤ b ∧ b < V 17 0) : MC l yX4_isOf cX4_isOf 3 (some .boolean) 1 EV am ad [.int (iI c), .int (iI b)] V (some (.int (iI (bI (isOfP V c b))))) (V) := by
  intro M0 hM0
  refine g_body tbX4_isOf tkX4_isOf (by decide) (by intro v hv; simp only [List.mem_cons, List.not_mem_nil, or_false] at hv; rcases hv with rfl | rfl | rfl <;> rfl) (Nat.le_of_ble_eq_true rfl) (fun z Q X hl hR hQ hE => ?_)
  subst hl
  refine (?_ : gMd z _ EV Q M0 am ad V 0 [some (.ref am), some (.int (iI c)), some (.int (iI b))] []) M0 hM0 gFr.rf
  have hs := mIs hI
  refine gm_run X 1 (pc1 := 1) (ls1 := [_, _, _]) (st1 := [_]) rfl ?_
  refine gm_get X rfl fX4_53 (v := .ref (ad 20)) rfl ?_
  refine gm_run X 1 (pc1 := 5) (ls1 := [_, _, _]) (st1 := [_, _]) rfl ?_
  refine gm_ald X 20 (x := b) (v := (V 20 b.toNat)) rfl rfl (by decide) (by show (0:Int) ≤ b ∧ b < 40; omega) (rfl) ?_
  have b5 := mI20 hI (j := b) (by omega) (by omega)
  refine gm_run X 1 (pc1 := 7) (ls1 := [_, _, _]) (st1 := [_, _]) rfl ?_
  refine gm_get X rfl fX4_34 (v := .ref (ad 13)) rfl ?_
  refine gm_run X 1 (pc1 := 11) (ls1 := [_, _, _]) (st1 := [_, _, _]) rfl ?_
  refine gm_ald X 13 (x := c) (v := (V 13 c.toNat)) rfl rfl (by decide) (by show (0:Int) ≤ c ∧ c < 60; omega) (rfl) ?_
  have b11 := mI13 hI (j := c) (by omega) (by omega)
  refine gm_br X (pc1 := 34) (st1 := []) rfl (fun b9 => ?_) (fun b9 => ?_)
  · have c12 : ¬ (V 20 b.toNat) = (V 13 c.toNat) := cNq b9 (by omega) (by omega)
    refine gm_run X 1 (pc1 := 35) (ls1 := [_, _, _]) (st1 := [_]) rfl ?_
    exact gm_zret X hQ rfl rfl rfl (by rw [bI_0 (p := isOfP V c b) (by omega)]) rfl
  · have c12 : (V 20 b.toNat) = (V 13 c.toNat) := cEq b9 (by omega) (by omega)
    refine gm_run X 1 (pc1 := 16) (ls1 := [_, _, _]) (st1 := [_]) rfl ?_
    refine gm_get X rfl fX4_56 (v := .ref (ad 21)) rfl ?_
    refine gm_run X 1 (pc1 := 20) (ls1 := [_, _, _]) (st1 := [_, _]) rfl ?_
    refine gm_ald X 21 (x := b) (v := (V 21 b.toNat)) rfl rfl (by decide) (by show (0:Int) ≤ b ∧ b < 40; omega) (rfl) ?_
    have b20 := mI21 hI (j := b) (by omega) (by omega)
    refine gm_run X 1 (pc1 := 22) (ls1 := [_, _, _]) (st1 := [_, _]) rfl ?_
    refine gm_get X rfl fX4_37 (v := .ref (ad 14)) rfl ?_
    refine gm_run X 1 (pc1 := 26) (ls1 := [_, _, _]) (st1 := [_, _, _]) rfl ?_
    refine gm_ald X 14 (x := c) (v := (V 14 c.toNat)) rfl rfl (by decide) (by show (0:Int) ≤ c ∧ c < 60; omega) (rfl) ?_
    have b26 := mI14 hI (j := c) (by omega) (by omega)
    refine gm_br X (pc1 := 34) (st1 := []) rfl (fun b9 => ?_) (fun b9 => ?_)
    · have c27 : ¬ (V 21 b.toNat) = (V 14 c.toNat) := cNq b9 (by omega) (by omega)
      refine gm_run X 1 (pc1 := 35) (ls1 := [_, _, _]) (st1 := [_]) rfl ?_
      exact gm_zret X hQ rfl rfl rfl (by rw [bI_0 (p := isOfP V c b) (by omega)]) rfl
    · have c27 : (V 21 b.toNat) = (V 14 c.toNat) := cEq b9 (by omega) (by omega)
      refine gm_run X 2 (pc1 := 35) (ls1 := [_, _, _]) (st1 := [_]) rfl ?_
      exact gm_zret X hQ rfl rfl rfl (by rw [bI_1 (p := isOfP V c b) (by omega)]) rfl
set_option maxHeartbeats 1000000 in
theorem mc_resume (l : Launch) (EV : gEV) (am : Nat) (ad : Nat → Nat) {V : gV} {c : Int} (hc : inR c) {b : Int} (hb : inR b) (hI : mI V) : MC l yX4_resume cX4_resume 3 (some .int) 4 EV am ad [.int (iI c), .int (iI b)] V (some (.int (iI (mRes V c b).1))) ((mRes V c b).2) := by
  intro M0 hM0
  refine g_body tbX4_resume tkX4_resume (by decide) (by intro v hv; simp only [List.mem_cons, List.not_mem_nil, or_false] at hv; rcases hv with rfl | rfl | rfl <;> rfl) (Nat.le_of_ble_eq_true rfl) (fun z Q X hl hR hQ hE => ?_)
  subst hl
  refine (?_ : gMd z _ EV Q M0 am ad V 0 [some (.ref am), some (.int (iI c)), some (.int (iI b))] []) M0 hM0 gFr.rf
  have hs := mIs hI
  refine gm_run X 3 (pc1 := 3) (ls1 := [_, _, _]) (st1 := [_, _, _]) rfl ?_
  refine gm_callV X rfl mX4_148 (mc_isCall z.2.1 EV am ad (w := c) (by omega) hI) rfl rfl (Nat.le_of_ble_eq_true rfl) (gFit.of hR (by decide) (by decide) (by decide)) ?_
  refine gm_eq (st' := [.int (iI (bI (isCl V c))), .ref am]) rfl rfl ?_
  refine gm_br X (pc1 := 21) (st1 := [_]) rfl (fun b9 => ?_) (fun b9 => ?_)
  · have c6 : ¬ (isCl V c) := bI_f b9
    refine gm_run X 1 (pc1 := 22) (ls1 := [_, _, _]) (st1 := [_, _]) rfl ?_
    refine gm_put X (v := 1) rfl fX4_80 (by decide) rfl mSet0 ?_
    have hT : mResT V c b = 1 := by unfold mResT; (repeat' split) <;> omega
    refine gm_run X 1 (pc1 := 26) (ls1 := [_, _, _]) (st1 := [_]) rfl ?_
    refine gm_get X rfl fX4_80 (v := .int (iI 1)) rfl ?_
    refine gm_br X (pc1 := 79) (st1 := []) rfl (fun b9 => ?_) (fun b9 => ?_)
    · have c29 : ¬ (1 : Int) = (0 : Int) := cNq b9 (by omega) (by omega)
      refine gm_run X 1 (pc1 := 80) (ls1 := [_, _, _]) (st1 := [_]) rfl ?_
      refine gm_get X rfl fX4_80 (v := .int (iI 1)) rfl ?_
      refine gm_br X (pc1 := 88) (st1 := []) rfl (fun b9 => ?_) (fun b9 => ?_)
      · have c83 : (1 : Int) ≤ (0 : Int) := cLe b9 (by omega) (by omega)
        exact absurd c83 (by omega)
      · have c83 : (0 : Int) < (1 : Int) := cNe b9 (by omega) (by omega)
        refine gm_run X 1 (pc1 := 87) (ls1 := [_, _, _]) (st1 := [_]) rfl ?_
        exact gm_ret X hQ rfl rfl (by unfold mRes; rw [hT]; (repeat (first | rw [if_pos (by omega)] | rw [if_neg (by omega)])); all_goals (try rfl)) (by unfold mRes; rw [hT]; (repeat (first | rw [if_pos (by omega)] | rw [if_neg (by omega)])); all_goals (try rfl))
    · have c29 : (1 : Int) = (0 : Int) := cEq b9 (by omega) (by omega)
      exact absurd c29 (by omega)
  · have c6 : isCl V c := bI_t b9
    refine gm_run X 2 (pc1 := 11) (ls1 := [_, _, _]) (st1 := [_, _, _]) rfl ?_
    refine gm_callV X rfl mX4_158 (mc_isBooking z.2.1 EV am ad (w := b) (by omega) hI) rfl rfl (Nat.le_of_ble_eq_true rfl) (gFit.of hR (by decide) (by decide) (by decide)) ?_
    refine gm_eq (st' := [.int (iI (bI (isBk V b))), .ref am]) rfl rfl ?_
    refine gm_br X (pc1 := 21) (st1 := [_]) rfl (fun b9 => ?_) (fun b9 => ?_)
    · have c14 : ¬ (isBk V b) := bI_f b9
      refine gm_run X 1 (pc1 := 22) (ls1 := [_, _, _]) (st1 := [_, _]) rfl ?_
      refine gm_put X (v := 1) rfl fX4_80 (by decide) rfl mSet0 ?_
      have hT : mResT V c b = 1 := by unfold mResT; (repeat' split) <;> omega
      refine gm_run X 1 (pc1 := 26) (ls1 := [_, _, _]) (st1 := [_]) rfl ?_
      refine gm_get X rfl fX4_80 (v := .int (iI 1)) rfl ?_
      refine gm_br X (pc1 := 79) (st1 := []) rfl (fun b9 => ?_) (fun b9 => ?_)
      · have c29 : ¬ (1 : Int) = (0 : Int) := cNq b9 (by omega) (by omega)
        refine gm_run X 1 (pc1 := 80) (ls1 := [_, _, _]) (st1 := [_]) rfl ?_
        refine gm_get X rfl fX4_80 (v := .int (iI 1)) rfl ?_
        refine gm_br X (pc1 := 88) (st1 := []) rfl (fun b9 => ?_) (fun b9 => ?_)
        · have c83 : (1 : Int) ≤ (0 : Int) := cLe b9 (by omega) (by omega)
          exact absurd c83 (by omega)
        · have c83 : (0 : Int) < (1 : Int) := cNe b9 (by omega) (by omega)
          refine gm_run X 1 (pc1 := 87) (ls1 := [_, _, _]) (st1 := [_]) rfl ?_
          exact gm_ret X hQ rfl rfl (by unfold mRes; rw [hT]; (repeat (first | rw [if_pos (by omega)] | rw [if_neg (by omega)])); all_goals (try rfl)) (by unfold mRes; rw [hT]; (repeat (first | rw [if_pos (by omega)] | rw [if_neg (by omega)])); all_goals (try rfl))
      · have c29 : (1 : Int) = (0 : Int) := cEq b9 (by omega) (by omega)
        exact absurd c29 (by omega)
    · have c14 : isBk V b := bI_t b9
      refine gm_run X 2 (pc1 := 22) (ls1 := [_, _, _]) (st1 := [_, _]) rfl ?_
      refine gm_put X (v := 0) rfl fX4_80 (by decide) rfl mSet0 ?_
      refine gm_run X 1 (pc1 := 26) (ls1 := [_, _, _]) (st1 := [_]) rfl ?_
      refine gm_get X rfl fX4_80 (v := .int (iI 0)) rfl ?_
      refine gm_br X (pc1 := 79) (st1 := []) rfl (fun b9 => ?_) (fun b9 => ?_)
      · have c29 : ¬ (0 : Int) = (0 : Int) := cNq b9 (by omega) (by omega)
        exact absurd c29 (by omega)
      · have c29 : (0 : Int) = (0 : Int) := cEq b9 (by omega) (by omega)
        refine gm_run X 2 (pc1 := 34) (ls1 := [_, _, _]) (st1 := [_, _]) rfl ?_
        refine gm_get X rfl fX4_40 (v := .ref (ad 15)) rfl ?_
        refine gm_run X 1 (pc1 := 38) (ls1 := [_, _, _]) (st1 := [_, _, _]) rfl ?_
        refine gm_zald X 15 (x := c) (v := (V 15 c.toNat)) rfl rfl (by decide) (by show (0:Int) ≤ c ∧ c < 60; omega) (rfl) ?_
        have b38 := mI15 hI (j := c) (by omega) (by omega)
        refine gm_br X (pc1 := 75) (st1 := [_]) rfl (fun b9 => ?_) (fun b9 => ?_)
        · have c39 : (V 15 c.toNat) = 0 := cEq b9 (by omega) (by omega)
          refine gm_run X 1 (pc1 := 76) (ls1 := [_, _, _]) (st1 := [_, _]) rfl ?_
          refine gm_put X (v := 2) rfl fX4_80 (by decide) rfl mSet0 ?_
          have hT : mResT V c b = 2 := by unfold mResT; (repeat' split) <;> omega
          refine gm_run X 1 (pc1 := 80) (ls1 := [_, _, _]) (st1 := [_]) rfl ?_
          refine gm_get X rfl fX4_80 (v := .int (iI 2)) rfl ?_
          refine gm_br X (pc1 := 88) (st1 := []) rfl (fun b9 => ?_) (fun b9 => ?_)
          · have c83 : (2 : Int) ≤ (0 : Int) := cLe b9 (by omega) (by omega)
            exact absurd c83 (by omega)
          · have c83 : (0 : Int) < (2 : Int) := cNe b9 (by omega) (by omega)
            refine gm_run X 1 (pc1 := 87) (ls1 := [_, _, _]) (st1 := [_]) rfl ?_
            exact gm_ret X hQ rfl rfl (by (try simp only [vS_vS]); unfold mRes; rw [hT]; (repeat (first | rw [if_pos (by omega)] | rw [if_neg (by omega)])); all_goals (try rfl)) (by (try simp only [vS_vS]); unfold mRes; rw [hT]; (repeat (first | rw [if_pos (by omega)] | rw [if_neg (by omega)])); all_goals (try rfl))
        · have c39 : ¬ (V 15 c.toNat) = 0 := cNq b9 (by omega) (by omega)
          refine gm_run X 1 (pc1 := 43) (ls1 := [_, _, _]) (st1 := [_, _]) rfl ?_
          refine gm_get X rfl fX4_44 (v := .ref (ad 16)) rfl ?_
          refine gm_run X 1 (pc1 := 47) (ls1 := [_, _, _]) (st1 := [_, _, _]) rfl ?_
          refine gm_ald X 16 (x := c) (v := (V 16 c.toNat)) rfl rfl (by decide) (by show (0:Int) ≤ c ∧ c < 60; omega) (rfl) ?_
          have b47 := mI16 hI (j := c) (by omega) (by omega)
          refine gm_run X 1 (pc1 := 49) (ls1 := [_, _, _]) (st1 := [_, _, _]) rfl ?_
          refine gm_br X (pc1 := 75) (st1 := [_]) rfl (fun b9 => ?_) (fun b9 => ?_)
          · have c49 : ¬ (V 16 c.toNat) = (-1) := cNq b9 (by omega) (by omega)
            refine gm_run X 1 (pc1 := 76) (ls1 := [_, _, _]) (st1 := [_, _]) rfl ?_
            refine gm_put X (v := 2) rfl fX4_80 (by decide) rfl mSet0 ?_
            have hT : mResT V c b = 2 := by unfold mResT; (repeat' split) <;> omega
            refine gm_run X 1 (pc1 := 80) (ls1 := [_, _, _]) (st1 := [_]) rfl ?_
            refine gm_get X rfl fX4_80 (v := .int (iI 2)) rfl ?_
            refine gm_br X (pc1 := 88) (st1 := []) rfl (fun b9 => ?_) (fun b9 => ?_)
            · have c83 : (2 : Int) ≤ (0 : Int) := cLe b9 (by omega) (by omega)
              exact absurd c83 (by omega)
            · have c83 : (0 : Int) < (2 : Int) := cNe b9 (by omega) (by omega)
              refine gm_run X 1 (pc1 := 87) (ls1 := [_, _, _]) (st1 := [_]) rfl ?_
              exact gm_ret X hQ rfl rfl (by (try simp only [vS_vS]); unfold mRes; rw [hT]; (repeat (first | rw [if_pos (by omega)] | rw [if_neg (by omega)])); all_goals (try rfl)) (by (try simp only [vS_vS]); unfold mRes; rw [hT]; (repeat (first | rw [if_pos (by omega)] | rw [if_neg (by omega)])); all_goals (try rfl))
          · have c49 : (V 16 c.toNat) = (-1) := cEq b9 (by omega) (by omega)
            refine gm_run X 1 (pc1 := 53) (ls1 := [_, _, _]) (st1 := [_, _]) rfl ?_
            refine gm_get X rfl fX4_47 (v := .ref (ad 18)) rfl ?_
            refine gm_run X 1 (pc1 := 57) (ls1 := [_, _, _]) (st1 := [_, _, _]) rfl ?_
            refine gm_ald X 18 (x := b) (v := (V 18 b.toNat)) rfl rfl (by decide) (by show (0:Int) ≤ b ∧ b < 40; omega) (rfl) ?_
            have b57 := mI18 hI (j := b) (by omega) (by omega)
            refine gm_run X 1 (pc1 := 59) (ls1 := [_, _, _]) (st1 := [_, _, _]) rfl ?_
            refine gm_br X (pc1 := 75) (st1 := [_]) rfl (fun b9 => ?_) (fun b9 => ?_)
            · have c59 : ¬ (V 18 b.toNat) = 1 := cNq b9 (by omega) (by omega)
              refine gm_run X 1 (pc1 := 76) (ls1 := [_, _, _]) (st1 := [_, _]) rfl ?_
              refine gm_put X (v := 2) rfl fX4_80 (by decide) rfl mSet0 ?_
              have hT : mResT V c b = 2 := by unfold mResT; (repeat' split) <;> omega
              refine gm_run X 1 (pc1 := 80) (ls1 := [_, _, _]) (st1 := [_]) rfl ?_
              refine gm_get X rfl fX4_80 (v := .int (iI 2)) rfl ?_
              refine gm_br X (pc1 := 88) (st1 := []) rfl (fun b9 => ?_) (fun b9 => ?_)
              · have c83 : (2 : Int) ≤ (0 : Int) := cLe b9 (by omega) (by omega)
                exact absurd c83 (by omega)
              · have c83 : (0 : Int) < (2 : Int) := cNe b9 (by omega) (by omega)
                refine gm_run X 1 (pc1 := 87) (ls1 := [_, _, _]) (st1 := [_]) rfl ?_
                exact gm_ret X hQ rfl rfl (by (try simp only [vS_vS]); unfold mRes; rw [hT]; (repeat (first | rw [if_pos (by omega)] | rw [if_neg (by omega)])); all_goals (try rfl)) (by (try simp only [vS_vS]); unfold mRes; rw [hT]; (repeat (first | rw [if_pos (by omega)] | rw [if_neg (by omega)])); all_goals (try rfl))
            · have c59 : (V 18 b.toNat) = 1 := cEq b9 (by omega) (by omega)
              refine gm_run X 3 (pc1 := 65) (ls1 := [_, _, _]) (st1 := [_, _, _, _]) rfl ?_
              refine gm_callV X rfl mX4_161 (mc_isOf z.2.1 EV am ad (c := c) (b := b) (by omega) (by omega) (mI_0 hI) (by show 0 ≤ _ ∧ _ < V 11 0; omega) (by show 0 ≤ _ ∧ _ < V 17 0; omega)) rfl rfl (Nat.le_of_ble_eq_true rfl) (gFit.of hR (by decide) (by decide) (by decide)) ?_
              refine gm_eq (st' := [.int (iI (bI (isOfP V c b))), .ref am]) rfl rfl ?_
              refine gm_br X (pc1 := 75) (st1 := [_]) rfl (fun b9 => ?_) (fun b9 => ?_)
              · have c68 : ¬ (isOfP V c b) := bI_f b9
                refine gm_run X 1 (pc1 := 76) (ls1 := [_, _, _]) (st1 := [_, _]) rfl ?_
                refine gm_put X (v := 2) rfl fX4_80 (by decide) rfl mSet0 ?_
                have hT : mResT V c b = 2 := by unfold mResT; (repeat' split) <;> omega
                refine gm_run X 1 (pc1 := 80) (ls1 := [_, _, _]) (st1 := [_]) rfl ?_
                refine gm_get X rfl fX4_80 (v := .int (iI 2)) rfl ?_
                refine gm_br X (pc1 := 88) (st1 := []) rfl (fun b9 => ?_) (fun b9 => ?_)
                · have c83 : (2 : Int) ≤ (0 : Int) := cLe b9 (by omega) (by omega)
                  exact absurd c83 (by omega)
                · have c83 : (0 : Int) < (2 : Int) := cNe b9 (by omega) (by omega)
                  refine gm_run X 1 (pc1 := 87) (ls1 := [_, _, _]) (st1 := [_]) rfl ?_
                  exact gm_ret X hQ rfl rfl (by (try simp only [vS_vS]); unfold mRes; rw [hT]; (repeat (first | rw [if_pos (by omega)] | rw [if_neg (by omega)])); all_goals (try rfl)) (by (try simp only [vS_vS]); unfold mRes; rw [hT]; (repeat (first | rw [if_pos (by omega)] | rw [if_neg (by omega)])); all_goals (try rfl))
              · have c68 : isOfP V c b := bI_t b9
                refine gm_run X 2 (pc1 := 76) (ls1 := [_, _, _]) (st1 := [_, _]) rfl ?_
                refine gm_put X (v := 0) rfl fX4_80 (by decide) rfl mSet0 ?_
                have hT : mResT V c b = 0 := by unfold mResT; (repeat' split) <;> omega
                refine gm_run X 1 (pc1 := 80) (ls1 := [_, _, _]) (st1 := [_]) rfl ?_
                refine gm_get X rfl fX4_80 (v := .int (iI 0)) rfl ?_
                refine gm_br X (pc1 := 88) (st1 := []) rfl (fun b9 => ?_) (fun b9 => ?_)
                · have c83 : (0 : Int) ≤ (0 : Int) := cLe b9 (by omega) (by omega)
                  refine gm_run X 1 (pc1 := 89) (ls1 := [_, _, _]) (st1 := [_]) rfl ?_
                  refine gm_get X rfl fX4_47 (v := .ref (ad 18)) rfl ?_
                  refine gm_run X 2 (pc1 := 94) (ls1 := [_, _, _]) (st1 := [_, _, _]) rfl ?_
                  refine gm_ast X 18 (x := b) (v := 0) rfl rfl (by decide) (by show (0:Int) ≤ b ∧ b < 40; omega) ?_
                  refine gm_run X 1 (pc1 := 96) (ls1 := [_, _, _]) (st1 := [_]) rfl ?_
                  refine gm_get X rfl fX4_44 (v := .ref (ad 16)) rfl ?_
                  refine gm_run X 2 (pc1 := 101) (ls1 := [_, _, _]) (st1 := [_, _, _]) rfl ?_
                  refine gm_ast X 16 (x := c) (v := b) rfl rfl (by decide) (by show (0:Int) ≤ c ∧ c < 60; omega) ?_
                  refine gm_run X 1 (pc1 := 103) (ls1 := [_, _, _]) (st1 := [_]) rfl ?_
                  refine gm_get X rfl fX4_62 (v := .ref (ad 23)) rfl ?_
                  refine gm_run X 1 (pc1 := 107) (ls1 := [_, _, _]) (st1 := [_, _]) rfl ?_
                  refine gm_ald X 23 (x := b) (v := (V 23 b.toNat)) rfl rfl (by decide) (by show (0:Int) ≤ b ∧ b < 40; omega) (rfl) ?_
                  have b107 := mI23 hI (j := b) (by omega) (by omega)
                  exact gm_ret X hQ rfl rfl (by (try simp only [vS_vS]); unfold mRes; rw [hT]; (repeat (first | rw [if_pos (by omega)] | rw [if_neg (by omega)])); all_goals (try rfl)) (by (try simp only [vS_vS]); unfold mRes; rw [hT]; (repeat (first | rw [if_pos (by omega)] | rw [if_neg (by omega)])); all_goals (try rfl))
                · have c83 : (0 : Int) < (0 : Int) := cNe b9 (by omega) (by omega)
                  exact absurd c83 (by omega)
set_option maxHeartbeats 1000000 in
theorem mc_cancel (l : Launch) (EV : gEV) (am : Nat) (ad : Nat → Nat) {V : gV} {c : Int} (hc : inR c) {b : Int} (hb : inR b) (hI : mI V) : MC l yX4_cancel cX4_cancel 3 (some .int) 4 EV am ad [.int (iI c), .int (iI b)] V (some (.int (iI (mCan V c b).1))) ((mCan V c b).2) := by
  intro M0 hM0
  refine g_body tbX4_cancel tkX4_cancel (by decide) (by intro v hv; simp only [List.mem_cons, List.not_mem_nil, or_false] at hv; rcases hv with rfl | rfl | rfl <;> rfl) (Nat.le_of_ble_eq_true rfl) (fun z Q X hl hR hQ hE => ?_)
  subst hl
  refine (?_ : gMd z _ EV Q M0 am ad V 0 [some (.ref am), some (.int (iI c)), some (.int (iI b))] []) M0 hM0 gFr.rf
  have hs := mIs hI
  refine gm_run X 3 (pc1 := 3) (ls1 := [_, _, _]) (st1 := [_, _, _]) rfl ?_
  refine gm_callV X rfl mX4_148 (mc_isCall z.2.1 EV am ad (w := c) (by omega) hI) rfl rfl (Nat.le_of_ble_eq_true rfl) (gFit.of hR (by decide) (by decide) (by decide)) ?_
  refine gm_eq (st' := [.int (iI (bI (isCl V c))), .ref am]) rfl rfl ?_
  refine gm_br X (pc1 := 21) (st1 := [_]) rfl (fun b9 => ?_) (fun b9 => ?_)
  · have c6 : ¬ (isCl V c) := bI_f b9
    refine gm_run X 1 (pc1 := 22) (ls1 := [_, _, _]) (st1 := [_, _]) rfl ?_
    refine gm_put X (v := 1) rfl fX4_80 (by decide) rfl mSet0 ?_
    have hT : mCanT V c b = 1 := by unfold mCanT; (repeat' split) <;> omega
    refine gm_run X 1 (pc1 := 26) (ls1 := [_, _, _]) (st1 := [_]) rfl ?_
    refine gm_get X rfl fX4_80 (v := .int (iI 1)) rfl ?_
    refine gm_br X (pc1 := 69) (st1 := []) rfl (fun b9 => ?_) (fun b9 => ?_)
    · have c29 : ¬ (1 : Int) = (0 : Int) := cNq b9 (by omega) (by omega)
      refine gm_run X 1 (pc1 := 70) (ls1 := [_, _, _]) (st1 := [_]) rfl ?_
      refine gm_get X rfl fX4_80 (v := .int (iI 1)) rfl ?_
      refine gm_br X (pc1 := 78) (st1 := []) rfl (fun b9 => ?_) (fun b9 => ?_)
      · have c73 : (1 : Int) ≤ (0 : Int) := cLe b9 (by omega) (by omega)
        exact absurd c73 (by omega)
      · have c73 : (0 : Int) < (1 : Int) := cNe b9 (by omega) (by omega)
        refine gm_run X 1 (pc1 := 77) (ls1 := [_, _, _]) (st1 := [_]) rfl ?_
        exact gm_ret X hQ rfl rfl (by unfold mCan; rw [hT]; (repeat (first | rw [if_pos (by omega)] | rw [if_neg (by omega)])); all_goals (try rfl)) (by unfold mCan; rw [hT]; (repeat (first | rw [if_pos (by omega)] | rw [if_neg (by omega)])); all_goals (try rfl))
    · have c29 : (1 : Int) = (0 : Int) := cEq b9 (by omega) (by omega)
      exact absurd c29 (by omega)
  · have c6 : isCl V c := bI_t b9
    refine gm_run X 2 (pc1 := 11) (ls1 := [_, _, _]) (st1 := [_, _, _]) rfl ?_
    refine gm_callV X rfl mX4_158 (mc_isBooking z.2.1 EV am ad (w := b) (by omega) hI) rfl rfl (Nat.le_of_ble_eq_true rfl) (gFit.of hR (by decide) (by decide) (by decide)) ?_
    refine gm_eq (st' := [.int (iI (bI (isBk V b))), .ref am]) rfl rfl ?_
    refine gm_br X (pc1 := 21) (st1 := [_]) rfl (fun b9 => ?_) (fun b9 => ?_)
    · have c14 : ¬ (isBk V b) := bI_f b9
      refine gm_run X 1 (pc1 := 22) (ls1 := [_, _, _]) (st1 := [_, _]) rfl ?_
      refine gm_put X (v := 1) rfl fX4_80 (by decide) rfl mSet0 ?_
      have hT : mCanT V c b = 1 := by unfold mCanT; (repeat' split) <;> omega
      refine gm_run X 1 (pc1 := 26) (ls1 := [_, _, _]) (st1 := [_]) rfl ?_
      refine gm_get X rfl fX4_80 (v := .int (iI 1)) rfl ?_
      refine gm_br X (pc1 := 69) (st1 := []) rfl (fun b9 => ?_) (fun b9 => ?_)
      · have c29 : ¬ (1 : Int) = (0 : Int) := cNq b9 (by omega) (by omega)
        refine gm_run X 1 (pc1 := 70) (ls1 := [_, _, _]) (st1 := [_]) rfl ?_
        refine gm_get X rfl fX4_80 (v := .int (iI 1)) rfl ?_
        refine gm_br X (pc1 := 78) (st1 := []) rfl (fun b9 => ?_) (fun b9 => ?_)
        · have c73 : (1 : Int) ≤ (0 : Int) := cLe b9 (by omega) (by omega)
          exact absurd c73 (by omega)
        · have c73 : (0 : Int) < (1 : Int) := cNe b9 (by omega) (by omega)
          refine gm_run X 1 (pc1 := 77) (ls1 := [_, _, _]) (st1 := [_]) rfl ?_
          exact gm_ret X hQ rfl rfl (by unfold mCan; rw [hT]; (repeat (first | rw [if_pos (by omega)] | rw [if_neg (by omega)])); all_goals (try rfl)) (by unfold mCan; rw [hT]; (repeat (first | rw [if_pos (by omega)] | rw [if_neg (by omega)])); all_goals (try rfl))
      · have c29 : (1 : Int) = (0 : Int) := cEq b9 (by omega) (by omega)
        exact absurd c29 (by omega)
    · have c14 : isBk V b := bI_t b9
      refine gm_run X 2 (pc1 := 22) (ls1 := [_, _, _]) (st1 := [_, _]) rfl ?_
      refine gm_put X (v := 0) rfl fX4_80 (by decide) rfl mSet0 ?_
      refine gm_run X 1 (pc1 := 26) (ls1 := [_, _, _]) (st1 := [_]) rfl ?_
      refine gm_get X rfl fX4_80 (v := .int (iI 0)) rfl ?_
      refine gm_br X (pc1 := 69) (st1 := []) rfl (fun b9 => ?_) (fun b9 => ?_)
      · have c29 : ¬ (0 : Int) = (0 : Int) := cNq b9 (by omega) (by omega)
        exact absurd c29 (by omega)
      · have c29 : (0 : Int) = (0 : Int) := cEq b9 (by omega) (by omega)
        refine gm_run X 2 (pc1 := 34) (ls1 := [_, _, _]) (st1 := [_, _]) rfl ?_
        refine gm_get X rfl fX4_40 (v := .ref (ad 15)) rfl ?_
        refine gm_run X 1 (pc1 := 38) (ls1 := [_, _, _]) (st1 := [_, _, _]) rfl ?_
        refine gm_zald X 15 (x := c) (v := (V 15 c.toNat)) rfl rfl (by decide) (by show (0:Int) ≤ c ∧ c < 60; omega) (rfl) ?_
        have b38 := mI15 hI (j := c) (by omega) (by omega)
        refine gm_br X (pc1 := 65) (st1 := [_]) rfl (fun b9 => ?_) (fun b9 => ?_)
        · have c39 : (V 15 c.toNat) = 0 := cEq b9 (by omega) (by omega)
          refine gm_run X 1 (pc1 := 66) (ls1 := [_, _, _]) (st1 := [_, _]) rfl ?_
          refine gm_put X (v := 2) rfl fX4_80 (by decide) rfl mSet0 ?_
          have hT : mCanT V c b = 2 := by unfold mCanT; (repeat' split) <;> omega
          refine gm_run X 1 (pc1 := 70) (ls1 := [_, _, _]) (st1 := [_]) rfl ?_
          refine gm_get X rfl fX4_80 (v := .int (iI 2)) rfl ?_
          refine gm_br X (pc1 := 78) (st1 := []) rfl (fun b9 => ?_) (fun b9 => ?_)
          · have c73 : (2 : Int) ≤ (0 : Int) := cLe b9 (by omega) (by omega)
            exact absurd c73 (by omega)
          · have c73 : (0 : Int) < (2 : Int) := cNe b9 (by omega) (by omega)
            refine gm_run X 1 (pc1 := 77) (ls1 := [_, _, _]) (st1 := [_]) rfl ?_
            exact gm_ret X hQ rfl rfl (by (try simp only [vS_vS]); unfold mCan; rw [hT]; (repeat (first | rw [if_pos (by omega)] | rw [if_neg (by omega)])); all_goals (try rfl)) (by (try simp only [vS_vS]); unfold mCan; rw [hT]; (repeat (first | rw [if_pos (by omega)] | rw [if_neg (by omega)])); all_goals (try rfl))
        · have c39 : ¬ (V 15 c.toNat) = 0 := cNq b9 (by omega) (by omega)
          refine gm_run X 1 (pc1 := 43) (ls1 := [_, _, _]) (st1 := [_, _]) rfl ?_
          refine gm_get X rfl fX4_47 (v := .ref (ad 18)) rfl ?_
          refine gm_run X 1 (pc1 := 47) (ls1 := [_, _, _]) (st1 := [_, _, _]) rfl ?_
          refine gm_ald X 18 (x := b) (v := (V 18 b.toNat)) rfl rfl (by decide) (by show (0:Int) ≤ b ∧ b < 40; omega) (rfl) ?_
          have b47 := mI18 hI (j := b) (by omega) (by omega)
          refine gm_run X 1 (pc1 := 49) (ls1 := [_, _, _]) (st1 := [_, _, _]) rfl ?_
          refine gm_br X (pc1 := 65) (st1 := [_]) rfl (fun b9 => ?_) (fun b9 => ?_)
          · have c49 : ¬ (V 18 b.toNat) = 2 := cNq b9 (by omega) (by omega)
            refine gm_run X 1 (pc1 := 66) (ls1 := [_, _, _]) (st1 := [_, _]) rfl ?_
            refine gm_put X (v := 2) rfl fX4_80 (by decide) rfl mSet0 ?_
            have hT : mCanT V c b = 2 := by unfold mCanT; (repeat' split) <;> omega
            refine gm_run X 1 (pc1 := 70) (ls1 := [_, _, _]) (st1 := [_]) rfl ?_
            refine gm_get X rfl fX4_80 (v := .int (iI 2)) rfl ?_
            refine gm_br X (pc1 := 78) (st1 := []) rfl (fun b9 => ?_) (fun b9 => ?_)
            · have c73 : (2 : Int) ≤ (0 : Int) := cLe b9 (by omega) (by omega)
              exact absurd c73 (by omega)
            · have c73 : (0 : Int) < (2 : Int) := cNe b9 (by omega) (by omega)
              refine gm_run X 1 (pc1 := 77) (ls1 := [_, _, _]) (st1 := [_]) rfl ?_
              exact gm_ret X hQ rfl rfl (by (try simp only [vS_vS]); unfold mCan; rw [hT]; (repeat (first | rw [if_pos (by omega)] | rw [if_neg (by omega)])); all_goals (try rfl)) (by (try simp only [vS_vS]); unfold mCan; rw [hT]; (repeat (first | rw [if_pos (by omega)] | rw [if_neg (by omega)])); all_goals (try rfl))
          · have c49 : (V 18 b.toNat) = 2 := cEq b9 (by omega) (by omega)
            refine gm_run X 3 (pc1 := 55) (ls1 := [_, _, _]) (st1 := [_, _, _, _]) rfl ?_
            refine gm_callV X rfl mX4_161 (mc_isOf z.2.1 EV am ad (c := c) (b := b) (by omega) (by omega) (mI_0 hI) (by show 0 ≤ _ ∧ _ < V 11 0; omega) (by show 0 ≤ _ ∧ _ < V 17 0; omega)) rfl rfl (Nat.le_of_ble_eq_true rfl) (gFit.of hR (by decide) (by decide) (by decide)) ?_
            refine gm_eq (st' := [.int (iI (bI (isOfP V c b))), .ref am]) rfl rfl ?_
            refine gm_br X (pc1 := 65) (st1 := [_]) rfl (fun b9 => ?_) (fun b9 => ?_)
            · have c58 : ¬ (isOfP V c b) := bI_f b9
              refine gm_run X 1 (pc1 := 66) (ls1 := [_, _, _]) (st1 := [_, _]) rfl ?_
              refine gm_put X (v := 2) rfl fX4_80 (by decide) rfl mSet0 ?_
              have hT : mCanT V c b = 2 := by unfold mCanT; (repeat' split) <;> omega
              refine gm_run X 1 (pc1 := 70) (ls1 := [_, _, _]) (st1 := [_]) rfl ?_
              refine gm_get X rfl fX4_80 (v := .int (iI 2)) rfl ?_
              refine gm_br X (pc1 := 78) (st1 := []) rfl (fun b9 => ?_) (fun b9 => ?_)
              · have c73 : (2 : Int) ≤ (0 : Int) := cLe b9 (by omega) (by omega)
                exact absurd c73 (by omega)
              · have c73 : (0 : Int) < (2 : Int) := cNe b9 (by omega) (by omega)
                refine gm_run X 1 (pc1 := 77) (ls1 := [_, _, _]) (st1 := [_]) rfl ?_
                exact gm_ret X hQ rfl rfl (by (try simp only [vS_vS]); unfold mCan; rw [hT]; (repeat (first | rw [if_pos (by omega)] | rw [if_neg (by omega)])); all_goals (try rfl)) (by (try simp only [vS_vS]); unfold mCan; rw [hT]; (repeat (first | rw [if_pos (by omega)] | rw [if_neg (by omega)])); all_goals (try rfl))
            · have c58 : isOfP V c b := bI_t b9
              refine gm_run X 2 (pc1 := 66) (ls1 := [_, _, _]) (st1 := [_, _]) rfl ?_
              refine gm_put X (v := 0) rfl fX4_80 (by decide) rfl mSet0 ?_
              have hT : mCanT V c b = 0 := by unfold mCanT; (repeat' split) <;> omega
              refine gm_run X 1 (pc1 := 70) (ls1 := [_, _, _]) (st1 := [_]) rfl ?_
              refine gm_get X rfl fX4_80 (v := .int (iI 0)) rfl ?_
              refine gm_br X (pc1 := 78) (st1 := []) rfl (fun b9 => ?_) (fun b9 => ?_)
              · have c73 : (0 : Int) ≤ (0 : Int) := cLe b9 (by omega) (by omega)
                refine gm_run X 1 (pc1 := 79) (ls1 := [_, _, _]) (st1 := [_]) rfl ?_
                refine gm_get X rfl fX4_47 (v := .ref (ad 18)) rfl ?_
                refine gm_run X 2 (pc1 := 84) (ls1 := [_, _, _]) (st1 := [_, _, _]) rfl ?_
                refine gm_ast X 18 (x := b) (v := 5) rfl rfl (by decide) (by show (0:Int) ≤ b ∧ b < 40; omega) ?_
                refine gm_run X 1 (pc1 := 86) (ls1 := [_, _, _]) (st1 := [_]) rfl ?_
                refine gm_get X rfl fX4_62 (v := .ref (ad 23)) rfl ?_
                refine gm_run X 1 (pc1 := 90) (ls1 := [_, _, _]) (st1 := [_, _]) rfl ?_
                refine gm_ald X 23 (x := b) (v := (V 23 b.toNat)) rfl rfl (by decide) (by show (0:Int) ≤ b ∧ b < 40; omega) (rfl) ?_
                have b90 := mI23 hI (j := b) (by omega) (by omega)
                exact gm_ret X hQ rfl rfl (by (try simp only [vS_vS]); unfold mCan; rw [hT]; (repeat (first | rw [if_pos (by omega)] | rw [if_neg (by omega)])); all_goals (try rfl)) (by (try simp only [vS_vS]); unfold mCan; rw [hT]; (repeat (first | rw [if_pos (by omega)] | rw [if_neg (by omega)])); all_goals (try rfl))
              · have c73 : (0 : Int) < (0 : Int) := cNe b9 (by omega) (by omega)
                exact absurd c73 (by omega)
set_option maxHeartbeats 1000000 in
theorem mc_ends (l : Launch) (EV : gEV) (am : Nat) (ad : Nat → Nat) {V : gV} {c : Int} (hc : inR c) (hI : mI V) (hc2 : 0 ≤ c ∧ c < 60) : MC l yX4_ends cX4_ends 3 none 1 EV am ad [.int (iI c)] V (none) (mEnd V c) := by
  intro M0 hM0
  refine g_body tbX4_ends tkX4_ends (by decide) (by intro v hv; simp only [List.mem_cons, List.not_mem_nil, or_false] at hv; rcases hv with rfl | rfl <;> rfl) (Nat.le_of_ble_eq_true rfl) (fun z Q X hl hR hQ hE => ?_)
  subst hl
  have hs := mIs hI
  have loop : ∀ (j k : Nat), (k : Int) + j = 6 → gMd z (cX4_ends, yX4_ends.cls, 3, none, tbX4_ends, yX4_ends.name) EV Q M0 am ad (mEn (vS V 15 c.toNat 0) c k) 9 [some (.ref am), some (.int (iI c)), some (.int (iI (k : Int)))] [] := by
    intro j
    induction j with
    | zero =>
      intro k hk
      refine gm_run X 2 (pc1 := 12) (ls1 := [_, _, _]) (st1 := [_, _]) rfl ?_
      refine gm_br X (pc1 := 47) (st1 := []) rfl (fun b9 => ?_) (fun b9 => ?_)
      · have c12 : 6 ≤ (k : Int) := cLe b9 (by omega) (by omega)
        have e9 : k = 6 := by omega
        subst e9
        exact gm_vret X hQ rfl rfl rfl rfl
      · have c12 : (k : Int) < 6 := cNe b9 (by omega) (by omega)
        exact absurd c12 (by omega)
    | succ j ih =>
      intro k hk
      have b9 := mI9 hI (j := (k : Int)) (by omega) (by omega)
      have e9 : (mEn (vS V 15 c.toNat 0) c k) 9 (k : Int).toNat = V 9 (k : Int).toNat := mEn_9 k (by omega)
      refine gm_run X 2 (pc1 := 12) (ls1 := [_, _, _]) (st1 := [_, _]) rfl ?_
      refine gm_br X (pc1 := 47) (st1 := []) rfl (fun b9 => ?_) (fun b9 => ?_)
      · have c12 : 6 ≤ (k : Int) := cLe b9 (by omega) (by omega)
        exact absurd c12 (by omega)
      · have c12 : (k : Int) < 6 := cNe b9 (by omega) (by omega)
        refine gm_run X 1 (pc1 := 16) (ls1 := [_, _, _]) (st1 := [_]) rfl ?_
        refine gm_get X rfl fX4_28 (v := .ref (ad 9)) rfl ?_
        refine gm_run X 2 (pc1 := 21) (ls1 := [_, _, _]) (st1 := [_, _, _]) rfl ?_
        refine gm_get X rfl fX4_28 (v := .ref (ad 9)) rfl ?_
        refine gm_run X 1 (pc1 := 25) (ls1 := [_, _, _]) (st1 := [_, _, _, _]) rfl ?_
        refine gm_ald X 9 (x := (k : Int)) (v := ((mEn (vS V 15 c.toNat 0) c k) 9 (k : Int).toNat)) rfl rfl (by decide) (by show (0:Int) ≤ (k : Int) ∧ (k : Int) < 6; omega) (rfl) ?_
        refine gm_run X 1 (pc1 := 27) (ls1 := [_, _, _]) (st1 := [_, _, _, _]) rfl ?_
        refine gm_br X (pc1 := 34) (st1 := [_, _]) rfl (fun b9 => ?_) (fun b9 => ?_)
        · have c27 : ¬ ((mEn (vS V 15 c.toNat 0) c k) 9 (k : Int).toNat) = c := cNq b9 (by omega) (by omega)
          refine gm_run X 1 (pc1 := 35) (ls1 := [_, _, _]) (st1 := [_, _, _]) rfl ?_
          refine gm_get X rfl fX4_28 (v := .ref (ad 9)) rfl ?_
          refine gm_run X 1 (pc1 := 39) (ls1 := [_, _, _]) (st1 := [_, _, _, _]) rfl ?_
          refine gm_ald X 9 (x := (k : Int)) (v := ((mEn (vS V 15 c.toNat 0) c k) 9 (k : Int).toNat)) rfl rfl (by decide) (by show (0:Int) ≤ (k : Int) ∧ (k : Int) < 6; omega) (rfl) ?_
          refine gm_ast X 9 (x := (k : Int)) (v := ((mEn (vS V 15 c.toNat 0) c k) 9 (k : Int).toNat)) rfl rfl (by decide) (by show (0:Int) ≤ (k : Int) ∧ (k : Int) < 6; omega) ?_
          refine gm_run X 2 (pc1 := 9) (ls1 := [_, _, _]) (st1 := []) rfl ?_
          refine gm_eq (ls' := [some (.ref am), some (.int (iI c)), some (.int (iI ((k : Int) + 1)))]) (st' := []) (by simp only [iI_add, iI_sub, iI_mul, iI_neg]) (by simp only [iI_add, iI_sub, iI_mul, iI_neg]) ?_
          have e : mEn (vS V 15 c.toNat 0) c (k + 1) = (vS (mEn (vS V 15 c.toNat 0) c k) 9 (k : Int).toNat ((mEn (vS V 15 c.toNat 0) c k) 9 (k : Int).toNat)) := by rw [mEn]; first | rw [if_pos (by omega)] | rw [if_neg (by omega)]
          have h9 := ih (k + 1) (by omega)
          rw [e] at h9
          exact h9
        · have c27 : ((mEn (vS V 15 c.toNat 0) c k) 9 (k : Int).toNat) = c := cEq b9 (by omega) (by omega)
          refine gm_run X 2 (pc1 := 40) (ls1 := [_, _, _]) (st1 := [_, _, _]) rfl ?_
          refine gm_ast X 9 (x := (k : Int)) (v := (-1)) rfl rfl (by decide) (by show (0:Int) ≤ (k : Int) ∧ (k : Int) < 6; omega) ?_
          refine gm_run X 2 (pc1 := 9) (ls1 := [_, _, _]) (st1 := []) rfl ?_
          refine gm_eq (ls' := [some (.ref am), some (.int (iI c)), some (.int (iI ((k : Int) + 1)))]) (st' := []) (by simp only [iI_add, iI_sub, iI_mul, iI_neg]) (by simp only [iI_add, iI_sub, iI_mul, iI_neg]) ?_
          have e : mEn (vS V 15 c.toNat 0) c (k + 1) = (vS (mEn (vS V 15 c.toNat 0) c k) 9 (k : Int).toNat (-1)) := by rw [mEn]; first | rw [if_pos (by omega)] | rw [if_neg (by omega)]
          have h9 := ih (k + 1) (by omega)
          rw [e] at h9
          exact h9
  refine (?_ : gMd z _ EV Q M0 am ad V 0 [some (.ref am), some (.int (iI c)), none] []) M0 hM0 gFr.rf
  refine gm_run X 1 (pc1 := 1) (ls1 := [_, _, _]) (st1 := [_]) rfl ?_
  refine gm_get X rfl fX4_40 (v := .ref (ad 15)) rfl ?_
  refine gm_run X 2 (pc1 := 6) (ls1 := [_, _, _]) (st1 := [_, _, _]) rfl ?_
  refine gm_zast X 15 (x := c) (v := 0) rfl rfl (by decide) (by show (0:Int) ≤ c ∧ c < 60; omega) (by omega) ?_
  refine gm_run X 2 (pc1 := 9) (ls1 := [_, _, _]) (st1 := []) rfl ?_
  exact loop 6 0 (by omega)
set_option maxHeartbeats 1000000 in
theorem mc_hangUp (l : Launch) (EV : gEV) (am : Nat) (ad : Nat → Nat) {V : gV} {c : Int} (hc : inR c) (hI : mI V) : MC l yX4_hangUp cX4_hangUp 3 (some .int) 4 EV am ad [.int (iI c)] V (some (.int (iI (mHang V c).1))) ((mHang V c).2) := by
  intro M0 hM0
  refine g_body tbX4_hangUp tkX4_hangUp (by decide) (by intro v hv; simp only [List.mem_cons, List.not_mem_nil, or_false] at hv; rcases hv with rfl | rfl <;> rfl) (Nat.le_of_ble_eq_true rfl) (fun z Q X hl hR hQ hE => ?_)
  subst hl
  refine (?_ : gMd z _ EV Q M0 am ad V 0 [some (.ref am), some (.int (iI c)), none] []) M0 hM0 gFr.rf
  have hs := mIs hI
  refine gm_run X 3 (pc1 := 3) (ls1 := [_, _, _]) (st1 := [_, _, _]) rfl ?_
  refine gm_callV X rfl mX4_148 (mc_isCall z.2.1 EV am ad (w := c) (by omega) hI) rfl rfl (Nat.le_of_ble_eq_true rfl) (gFit.of hR (by decide) (by decide) (by decide)) ?_
  refine gm_eq (st' := [.int (iI (bI (isCl V c))), .ref am]) rfl rfl ?_
  refine gm_br X (pc1 := 13) (st1 := [_]) rfl (fun b9 => ?_) (fun b9 => ?_)
  · have c6 : isCl V c := bI_t b9
    refine gm_run X 1 (pc1 := 14) (ls1 := [_, _, _]) (st1 := [_, _]) rfl ?_
    refine gm_get X rfl fX4_40 (v := .ref (ad 15)) rfl ?_
    refine gm_run X 1 (pc1 := 18) (ls1 := [_, _, _]) (st1 := [_, _, _]) rfl ?_
    refine gm_zald X 15 (x := c) (v := (V 15 c.toNat)) rfl rfl (by decide) (by show (0:Int) ≤ c ∧ c < 60; omega) (rfl) ?_
    have b18 := mI15 hI (j := c) (by omega) (by omega)
    refine gm_br X (pc1 := 26) (st1 := [_]) rfl (fun b9 => ?_) (fun b9 => ?_)
    · have c19 : (V 15 c.toNat) = 0 := cEq b9 (by omega) (by omega)
      refine gm_run X 1 (pc1 := 27) (ls1 := [_, _, _]) (st1 := [_, _]) rfl ?_
      refine gm_put X (v := 2) rfl fX4_80 (by decide) rfl mSet0 ?_
      have hT : mHangT V c = 2 := by unfold mHangT; (repeat' split) <;> omega
      refine gm_run X 1 (pc1 := 31) (ls1 := [_, _, _]) (st1 := [_]) rfl ?_
      refine gm_get X rfl fX4_80 (v := .int (iI 2)) rfl ?_
      refine gm_br X (pc1 := 39) (st1 := []) rfl (fun b9 => ?_) (fun b9 => ?_)
      · have c34 : (2 : Int) ≤ (0 : Int) := cLe b9 (by omega) (by omega)
        exact absurd c34 (by omega)
      · have c34 : (0 : Int) < (2 : Int) := cNe b9 (by omega) (by omega)
        refine gm_run X 1 (pc1 := 38) (ls1 := [_, _, _]) (st1 := [_]) rfl ?_
        exact gm_ret X hQ rfl rfl (by unfold mHang; rw [hT]; (repeat (first | rw [if_pos (by omega)] | rw [if_neg (by omega)])); all_goals (try rfl); all_goals (unfold mHang2; (repeat (first | rw [if_pos (by omega)] | rw [if_neg (by omega)])); all_goals (try rfl))) (by unfold mHang; rw [hT]; (repeat (first | rw [if_pos (by omega)] | rw [if_neg (by omega)])); all_goals (try rfl); all_goals (unfold mHang2; (repeat (first | rw [if_pos (by omega)] | rw [if_neg (by omega)])); all_goals (try rfl)))
    · have c19 : ¬ (V 15 c.toNat) = 0 := cNq b9 (by omega) (by omega)
      refine gm_run X 2 (pc1 := 27) (ls1 := [_, _, _]) (st1 := [_, _]) rfl ?_
      refine gm_put X (v := 0) rfl fX4_80 (by decide) rfl mSet0 ?_
      have hT : mHangT V c = 0 := by unfold mHangT; (repeat' split) <;> omega
      refine gm_run X 1 (pc1 := 31) (ls1 := [_, _, _]) (st1 := [_]) rfl ?_
      refine gm_get X rfl fX4_80 (v := .int (iI 0)) rfl ?_
      refine gm_br X (pc1 := 39) (st1 := []) rfl (fun b9 => ?_) (fun b9 => ?_)
      · have c34 : (0 : Int) ≤ (0 : Int) := cLe b9 (by omega) (by omega)
        refine gm_run X 2 (pc1 := 41) (ls1 := [_, _, _]) (st1 := [_, _]) rfl ?_
        refine gm_callV X rfl mX4_164 (mc_ends z.2.1 EV am ad (c := c) (by omega) (mI_0 hI) (by omega)) rfl rfl (Nat.le_of_ble_eq_true rfl) (gFit.of hR (by decide) (by decide) (by decide)) ?_
        refine gm_eq (st' := []) rfl rfl ?_
        have e16 : (mEnd (vS V 0 0 0) c) 16 c.toNat = V 16 c.toNat := mEnd_k (by decide) (by decide)
        have b16 := mI16 hI (j := c) (by omega) (by omega)
        have e1 : (mEnd (vS V 0 0 0) c) 1 0 = V 1 0 := mEnd_k (by decide) (by decide)
        refine gm_run X 1 (pc1 := 45) (ls1 := [_, _, _]) (st1 := [_]) rfl ?_
        refine gm_get X rfl fX4_44 (v := .ref (ad 16)) rfl ?_
        refine gm_run X 1 (pc1 := 49) (ls1 := [_, _, _]) (st1 := [_, _]) rfl ?_
        refine gm_ald X 16 (x := c) (v := ((mEnd (vS V 0 0 0) c) 16 c.toNat)) rfl rfl (by decide) (by show (0:Int) ≤ c ∧ c < 60; omega) (rfl) ?_
        refine gm_run X 3 (pc1 := 53) (ls1 := [_, _, _]) (st1 := [_, _]) rfl ?_
        refine gm_br X (pc1 := 58) (st1 := []) rfl (fun b9 => ?_) (fun b9 => ?_)
        · have c53 : ¬ ((mEnd (vS V 0 0 0) c) 16 c.toNat) = (-1) := cNq b9 (by omega) (by omega)
          refine gm_run X 1 (pc1 := 59) (ls1 := [_, _, _]) (st1 := [_]) rfl ?_
          refine gm_get X rfl fX4_47 (v := .ref (ad 18)) rfl ?_
          refine gm_run X 2 (pc1 := 64) (ls1 := [_, _, _]) (st1 := [_, _, _]) rfl ?_
          refine gm_ast X 18 (x := ((mEnd (vS V 0 0 0) c) 16 c.toNat)) (v := 5) rfl rfl (by decide) (by show (0:Int) ≤ ((mEnd (vS V 0 0 0) c) 16 c.toNat) ∧ ((mEnd (vS V 0 0 0) c) 16 c.toNat) < 40; omega) ?_
          refine gm_run X 1 (pc1 := 66) (ls1 := [_, _, _]) (st1 := [_]) rfl ?_
          refine gm_get X rfl fX4_62 (v := .ref (ad 23)) rfl ?_
          refine gm_run X 1 (pc1 := 70) (ls1 := [_, _, _]) (st1 := [_, _]) rfl ?_
          refine gm_ald X 23 (x := ((mEnd (vS V 0 0 0) c) 16 c.toNat)) (v := ((mEnd (vS V 0 0 0) c) 23 ((mEnd (vS V 0 0 0) c) 16 c.toNat).toNat)) rfl rfl (by decide) (by show (0:Int) ≤ ((mEnd (vS V 0 0 0) c) 16 c.toNat) ∧ ((mEnd (vS V 0 0 0) c) 16 c.toNat) < 40; omega) (rfl) ?_
          exact gm_ret X hQ rfl rfl (by unfold mHang; rw [hT]; (repeat (first | rw [if_pos (by omega)] | rw [if_neg (by omega)])); all_goals (try rfl); all_goals (unfold mHang2; (repeat (first | rw [if_pos (by omega)] | rw [if_neg (by omega)])); all_goals (try rfl))) (by unfold mHang; rw [hT]; (repeat (first | rw [if_pos (by omega)] | rw [if_neg (by omega)])); all_goals (try rfl); all_goals (unfold mHang2; (repeat (first | rw [if_pos (by omega)] | rw [if_neg (by omega)])); all_goals (try rfl)))
        · have c53 : ((mEnd (vS V 0 0 0) c) 16 c.toNat) = (-1) := cEq b9 (by omega) (by omega)
          refine gm_run X 1 (pc1 := 57) (ls1 := [_, _, _]) (st1 := [_]) rfl ?_
          exact gm_ret X hQ rfl rfl (by unfold mHang; rw [hT]; (repeat (first | rw [if_pos (by omega)] | rw [if_neg (by omega)])); all_goals (try rfl); all_goals (unfold mHang2; (repeat (first | rw [if_pos (by omega)] | rw [if_neg (by omega)])); all_goals (try rfl))) (by unfold mHang; rw [hT]; (repeat (first | rw [if_pos (by omega)] | rw [if_neg (by omega)])); all_goals (try rfl); all_goals (unfold mHang2; (repeat (first | rw [if_pos (by omega)] | rw [if_neg (by omega)])); all_goals (try rfl)))
      · have c34 : (0 : Int) < (0 : Int) := cNe b9 (by omega) (by omega)
        exact absurd c34 (by omega)
  · have c6 : ¬ (isCl V c) := bI_f b9
    refine gm_run X 2 (pc1 := 27) (ls1 := [_, _, _]) (st1 := [_, _]) rfl ?_
    refine gm_put X (v := 1) rfl fX4_80 (by decide) rfl mSet0 ?_
    have hT : mHangT V c = 1 := by unfold mHangT; (repeat' split) <;> omega
    refine gm_run X 1 (pc1 := 31) (ls1 := [_, _, _]) (st1 := [_]) rfl ?_
    refine gm_get X rfl fX4_80 (v := .int (iI 1)) rfl ?_
    refine gm_br X (pc1 := 39) (st1 := []) rfl (fun b9 => ?_) (fun b9 => ?_)
    · have c34 : (1 : Int) ≤ (0 : Int) := cLe b9 (by omega) (by omega)
      exact absurd c34 (by omega)
    · have c34 : (0 : Int) < (1 : Int) := cNe b9 (by omega) (by omega)
      refine gm_run X 1 (pc1 := 38) (ls1 := [_, _, _]) (st1 := [_]) rfl ?_
      exact gm_ret X hQ rfl rfl (by unfold mHang; rw [hT]; (repeat (first | rw [if_pos (by omega)] | rw [if_neg (by omega)])); all_goals (try rfl); all_goals (unfold mHang2; (repeat (first | rw [if_pos (by omega)] | rw [if_neg (by omega)])); all_goals (try rfl))) (by unfold mHang; rw [hT]; (repeat (first | rw [if_pos (by omega)] | rw [if_neg (by omega)])); all_goals (try rfl); all_goals (unfold mHang2; (repeat (first | rw [if_pos (by omega)] | rw [if_neg (by omega)])); all_goals (try rfl)))
set_option maxHeartbeats 1000000 in
theorem mc_callOf (l : Launch) (EV : gEV) (am : Nat) (ad : Nat → Nat) {V : gV} {c : Int} (hc : inR c) (hI : mI V) : MC l yX4_callOf cX4_callOf 2 (some .int) 4 EV am ad [.int (iI c)] V (some (.int (iI (mCof V c).1))) ((mCof V c).2) := by
  intro M0 hM0
  refine g_body tbX4_callOf tkX4_callOf (by decide) (by intro v hv; simp only [List.mem_cons, List.not_mem_nil, or_false] at hv; rcases hv with rfl | rfl <;> rfl) (Nat.le_of_ble_eq_true rfl) (fun z Q X hl hR hQ hE => ?_)
  subst hl
  refine (?_ : gMd z _ EV Q M0 am ad V 0 [some (.ref am), some (.int (iI c))] []) M0 hM0 gFr.rf
  have hs := mIs hI
  refine gm_run X 4 (pc1 := 4) (ls1 := [_, _]) (st1 := [_, _, _, _]) rfl ?_
  refine gm_callS X rfl mX4_84 (fun M => mc_in z.2.1 EV M (v := c) (lo := 0) (hi := 5) (by omega) (by omega) (by omega)) rfl rfl (Nat.le_of_ble_eq_true rfl) (gFit.of hR (by decide) (by decide) (by decide)) ?_
  refine gm_eq (st' := [.int (iI (bI (0 ≤ c ∧ c ≤ 5))), .ref am]) rfl rfl ?_
  refine gm_br X (pc1 := 14) (st1 := [_]) rfl (fun b9 => ?_) (fun b9 => ?_)
  · have c7 : ¬ (0 ≤ c ∧ c ≤ 5) := bI_f b9
    refine gm_run X 1 (pc1 := 15) (ls1 := [_, _]) (st1 := [_, _]) rfl ?_
    refine gm_put X (v := 1) rfl fX4_80 (by decide) rfl mSet0 ?_
    have hT : mCofT V c = 1 := by unfold mCofT; (repeat' split) <;> omega
    refine gm_run X 1 (pc1 := 19) (ls1 := [_, _]) (st1 := [_]) rfl ?_
    refine gm_get X rfl fX4_80 (v := .int (iI 1)) rfl ?_
    refine gm_br X (pc1 := 29) (st1 := []) rfl (fun b9 => ?_) (fun b9 => ?_)
    · have c22 : (1 : Int) ≤ (0 : Int) := cLe b9 (by omega) (by omega)
      exact absurd c22 (by omega)
    · have c22 : (0 : Int) < (1 : Int) := cNe b9 (by omega) (by omega)
      refine gm_run X 2 (pc1 := 34) (ls1 := [_, _]) (st1 := [_]) rfl ?_
      exact gm_ret X hQ rfl rfl (by unfold mCof; rw [hT]; (repeat (first | rw [if_pos (by omega)] | rw [if_neg (by omega)])); all_goals (try rfl)) (by unfold mCof; rw [hT]; (repeat (first | rw [if_pos (by omega)] | rw [if_neg (by omega)])); all_goals (try rfl))
  · have c7 : 0 ≤ c ∧ c ≤ 5 := bI_t b9
    refine gm_run X 2 (pc1 := 15) (ls1 := [_, _]) (st1 := [_, _]) rfl ?_
    refine gm_put X (v := 0) rfl fX4_80 (by decide) rfl mSet0 ?_
    have hT : mCofT V c = 0 := by unfold mCofT; (repeat' split) <;> omega
    refine gm_run X 1 (pc1 := 19) (ls1 := [_, _]) (st1 := [_]) rfl ?_
    refine gm_get X rfl fX4_80 (v := .int (iI 0)) rfl ?_
    refine gm_br X (pc1 := 29) (st1 := []) rfl (fun b9 => ?_) (fun b9 => ?_)
    · have c22 : (0 : Int) ≤ (0 : Int) := cLe b9 (by omega) (by omega)
      refine gm_run X 2 (pc1 := 31) (ls1 := [_, _]) (st1 := [_, _]) rfl ?_
      refine gm_callV X rfl mX4_132 (mc_callNow z.2.1 EV am ad (c := c) (by omega) (mI_0 hI)) rfl rfl (Nat.le_of_ble_eq_true rfl) (gFit.of hR (by decide) (by decide) (by decide)) ?_
      refine gm_eq (st' := [.int (iI (mCN (vS V 0 0 0) c (V 11 0).toNat))]) rfl rfl ?_
      have r31 := mCN_r (vS V 0 0 0) c (V 11 0).toNat
      exact gm_ret X hQ rfl rfl (by unfold mCof; rw [hT]; (repeat (first | rw [if_pos (by omega)] | rw [if_neg (by omega)])); all_goals (try rfl)) (by unfold mCof; rw [hT]; (repeat (first | rw [if_pos (by omega)] | rw [if_neg (by omega)])); all_goals (try rfl))
    · have c22 : (0 : Int) < (0 : Int) := cNe b9 (by omega) (by omega)
      exact absurd c22 (by omega)
set_option maxHeartbeats 1000000 in
theorem mc_way (l : Launch) (EV : gEV) (am : Nat) (ad : Nat → Nat) {V : gV} {c : Int} (hc : inR c) (hI : mI V) : MC l yX4_way cX4_way 4 (some .int) 4 EV am ad [.int (iI c)] V (some (.int (iI (mWay V c).1))) ((mWay V c).2) := by
  intro M0 hM0
  refine g_body tbX4_way tkX4_way (by decide) (by intro v hv; simp only [List.mem_cons, List.not_mem_nil, or_false] at hv; rcases hv with rfl | rfl <;> rfl) (Nat.le_of_ble_eq_true rfl) (fun z Q X hl hR hQ hE => ?_)
  subst hl
  have hs := mIs hI
  have loop : mHangT V c = 0 → ∀ (j k : Nat), (k : Int) + j = 6 → gMd z (cX4_way, yX4_way.cls, 4, (some .int), tbX4_way, yX4_way.name) EV Q M0 am ad (vS V 0 0 0) 34 [some (.ref am), some (.int (iI c)), some (.int (iI (mWy V c k))), some (.int (iI (k : Int)))] [] := by
    intro hT j
    induction j with
    | zero =>
      intro k hk
      have hr := mWy_r V c k
      refine gm_run X 2 (pc1 := 37) (ls1 := [_, _, _, _]) (st1 := [_, _]) rfl ?_
      refine gm_br X (pc1 := 71) (st1 := []) rfl (fun b9 => ?_) (fun b9 => ?_)
      · have c37 : 6 ≤ (k : Int) := cLe b9 (by omega) (by omega)
        refine gm_run X 1 (pc1 := 72) (ls1 := [_, _, _, _]) (st1 := [_]) rfl ?_
        have e9 : k = 6 := by omega
        subst e9
        exact gm_ret X hQ rfl rfl (by unfold mWay; rw [hT]; (repeat (first | rw [if_pos (by omega)] | rw [if_neg (by omega)])); all_goals (try rfl)) (by unfold mWay; rw [hT]; (repeat (first | rw [if_pos (by omega)] | rw [if_neg (by omega)])); all_goals (try rfl))
      · have c37 : (k : Int) < 6 := cNe b9 (by omega) (by omega)
        exact absurd c37 (by omega)
    | succ j ih =>
      intro k hk
      have hr := mWy_r V c k
      refine gm_run X 2 (pc1 := 37) (ls1 := [_, _, _, _]) (st1 := [_, _]) rfl ?_
      refine gm_br X (pc1 := 71) (st1 := []) rfl (fun b9 => ?_) (fun b9 => ?_)
      · have c37 : 6 ≤ (k : Int) := cLe b9 (by omega) (by omega)
        exact absurd c37 (by omega)
      · have c37 : (k : Int) < 6 := cNe b9 (by omega) (by omega)
        refine gm_run X 1 (pc1 := 41) (ls1 := [_, _, _, _]) (st1 := [_]) rfl ?_
        refine gm_get X rfl fX4_80 (v := .int (iI 0)) rfl ?_
        refine gm_br X (pc1 := 71) (st1 := []) rfl (fun b9 => ?_) (fun b9 => ?_)
        · have c44 : ¬ (0 : Int) = (0 : Int) := cNq b9 (by omega) (by omega)
          exact absurd c44 (by omega)
        · have c44 : (0 : Int) = (0 : Int) := cEq b9 (by omega) (by omega)
          refine gm_run X 2 (pc1 := 49) (ls1 := [_, _, _, _]) (st1 := [_, _]) rfl ?_
          refine gm_get X rfl fX4_28 (v := .ref (ad 9)) rfl ?_
          refine gm_run X 1 (pc1 := 53) (ls1 := [_, _, _, _]) (st1 := [_, _, _]) rfl ?_
          refine gm_ald X 9 (x := (k : Int)) (v := (V 9 (k : Int).toNat)) rfl rfl (by decide) (by show (0:Int) ≤ (k : Int) ∧ (k : Int) < 6; omega) (rfl) ?_
          have b53 := mI9 hI (j := (k : Int)) (by omega) (by omega)
          refine gm_run X 1 (pc1 := 55) (ls1 := [_, _, _, _]) (st1 := [_, _, _]) rfl ?_
          refine gm_br X (pc1 := 62) (st1 := [_]) rfl (fun b9 => ?_) (fun b9 => ?_)
          · have c55 : ¬ (V 9 (k : Int).toNat) = c := cNq b9 (by omega) (by omega)
            refine gm_run X 5 (pc1 := 34) (ls1 := [_, _, _, _]) (st1 := []) rfl ?_
            refine gm_eq (ls' := [some (.ref am), some (.int (iI c)), some (.int (iI ((mWy V c k) + 0))), some (.int (iI ((k : Int) + 1)))]) (st' := []) (by simp only [iI_add, iI_sub, iI_mul, iI_neg]) (by simp only [iI_add, iI_sub, iI_mul, iI_neg]) ?_
            have e : mWy V c (k + 1) = ((mWy V c k) + 0) := by rw [mWy]; first | rw [if_pos (by omega)] | rw [if_neg (by omega)]
            have h9 := ih (k + 1) (by omega)
            rw [e] at h9
            exact h9
          · have c55 : (V 9 (k : Int).toNat) = c := cEq b9 (by omega) (by omega)
            refine gm_run X 6 (pc1 := 34) (ls1 := [_, _, _, _]) (st1 := []) rfl ?_
            refine gm_eq (ls' := [some (.ref am), some (.int (iI c)), some (.int (iI ((mWy V c k) + 1))), some (.int (iI ((k : Int) + 1)))]) (st' := []) (by simp only [iI_add, iI_sub, iI_mul, iI_neg]) (by simp only [iI_add, iI_sub, iI_mul, iI_neg]) ?_
            have e : mWy V c (k + 1) = ((mWy V c k) + 1) := by rw [mWy]; first | rw [if_pos (by omega)] | rw [if_neg (by omega)]
            have h9 := ih (k + 1) (by omega)
            rw [e] at h9
            exact h9
  refine (?_ : gMd z _ EV Q M0 am ad V 0 [some (.ref am), some (.int (iI c)), none, none] []) M0 hM0 gFr.rf
  refine gm_run X 3 (pc1 := 3) (ls1 := [_, _, _, _]) (st1 := [_, _, _]) rfl ?_
  refine gm_callV X rfl mX4_148 (mc_isCall z.2.1 EV am ad (w := c) (by omega) hI) rfl rfl (Nat.le_of_ble_eq_true rfl) (gFit.of hR (by decide) (by decide) (by decide)) ?_
  refine gm_eq (st' := [.int (iI (bI (isCl V c))), .ref am]) rfl rfl ?_
  refine gm_br X (pc1 := 13) (st1 := [_]) rfl (fun b9 => ?_) (fun b9 => ?_)
  · have c6 : isCl V c := bI_t b9
    refine gm_run X 1 (pc1 := 14) (ls1 := [_, _, _, _]) (st1 := [_, _]) rfl ?_
    refine gm_get X rfl fX4_40 (v := .ref (ad 15)) rfl ?_
    refine gm_run X 1 (pc1 := 18) (ls1 := [_, _, _, _]) (st1 := [_, _, _]) rfl ?_
    refine gm_zald X 15 (x := c) (v := (V 15 c.toNat)) rfl rfl (by decide) (by show (0:Int) ≤ c ∧ c < 60; omega) (rfl) ?_
    have b18 := mI15 hI (j := c) (by omega) (by omega)
    refine gm_br X (pc1 := 26) (st1 := [_]) rfl (fun b9 => ?_) (fun b9 => ?_)
    · have c19 : (V 15 c.toNat) = 0 := cEq b9 (by omega) (by omega)
      refine gm_run X 1 (pc1 := 27) (ls1 := [_, _, _, _]) (st1 := [_, _]) rfl ?_
      refine gm_put X (v := 2) rfl fX4_80 (by decide) rfl mSet0 ?_
      have hT : mHangT V c = 2 := by unfold mHangT; (repeat' split) <;> omega
      refine gm_run X 4 (pc1 := 34) (ls1 := [_, _, _, _]) (st1 := []) rfl ?_
      refine gm_run X 2 (pc1 := 37) (ls1 := [_, _, _, _]) (st1 := [_, _]) rfl ?_
      refine gm_br X (pc1 := 71) (st1 := []) rfl (fun b9 => absurd (cLe b9 (by omega) (by omega)) (by omega)) (fun b9 => ?_)
      refine gm_run X 1 (pc1 := 41) (ls1 := [_, _, _, _]) (st1 := [_]) rfl ?_
      refine gm_get X rfl fX4_80 (v := .int (iI 2)) rfl ?_
      refine gm_br X (pc1 := 71) (st1 := []) rfl (fun b9 => ?_) (fun b9 => absurd (cEq b9 (by omega) (by omega)) (by omega))
      refine gm_run X 1 (pc1 := 72) (ls1 := [_, _, _, _]) (st1 := [_]) rfl ?_
      exact gm_ret X hQ rfl rfl (by unfold mWay; rw [hT]; (repeat (first | rw [if_pos (by omega)] | rw [if_neg (by omega)])); all_goals (try rfl)) (by unfold mWay; rw [hT]; (repeat (first | rw [if_pos (by omega)] | rw [if_neg (by omega)])); all_goals (try rfl))
    · have c19 : ¬ (V 15 c.toNat) = 0 := cNq b9 (by omega) (by omega)
      refine gm_run X 2 (pc1 := 27) (ls1 := [_, _, _, _]) (st1 := [_, _]) rfl ?_
      refine gm_put X (v := 0) rfl fX4_80 (by decide) rfl mSet0 ?_
      have hT : mHangT V c = 0 := by unfold mHangT; (repeat' split) <;> omega
      refine gm_run X 4 (pc1 := 34) (ls1 := [_, _, _, _]) (st1 := []) rfl ?_
      exact loop hT 6 0 (by omega)
  · have c6 : ¬ (isCl V c) := bI_f b9
    refine gm_run X 2 (pc1 := 27) (ls1 := [_, _, _, _]) (st1 := [_, _]) rfl ?_
    refine gm_put X (v := 1) rfl fX4_80 (by decide) rfl mSet0 ?_
    have hT : mHangT V c = 1 := by unfold mHangT; (repeat' split) <;> omega
    refine gm_run X 4 (pc1 := 34) (ls1 := [_, _, _, _]) (st1 := []) rfl ?_
    refine gm_run X 2 (pc1 := 37) (ls1 := [_, _, _, _]) (st1 := [_, _]) rfl ?_
    refine gm_br X (pc1 := 71) (st1 := []) rfl (fun b9 => absurd (cLe b9 (by omega) (by omega)) (by omega)) (fun b9 => ?_)
    refine gm_run X 1 (pc1 := 41) (ls1 := [_, _, _, _]) (st1 := [_]) rfl ?_
    refine gm_get X rfl fX4_80 (v := .int (iI 1)) rfl ?_
    refine gm_br X (pc1 := 71) (st1 := []) rfl (fun b9 => ?_) (fun b9 => absurd (cEq b9 (by omega) (by omega)) (by omega))
    refine gm_run X 1 (pc1 := 72) (ls1 := [_, _, _, _]) (st1 := [_]) rfl ?_
    exact gm_ret X hQ rfl rfl (by unfold mWay; rw [hT]; (repeat (first | rw [if_pos (by omega)] | rw [if_neg (by omega)])); all_goals (try rfl)) (by unfold mWay; rw [hT]; (repeat (first | rw [if_pos (by omega)] | rw [if_neg (by omega)])); all_goals (try rfl))
set_option maxHeartbeats 1000000 in
theorem mc_cut (l : Launch) (EV : gEV) (am : Nat) (ad : Nat → Nat) {V : gV} {a : Int} (ha : inR a) {b : Int} (hb : inR b) {k : Int} (hk : inR k) (hI : mI V) : MC l yX4_cut cX4_cut 5 (some .int) 5 EV am ad [.int (iI a), .int (iI b), .int (iI k)] V (some (.int (iI (mCut V a b k).1))) ((mCut V a b k).2) := by
  intro M0 hM0
  refine g_body tbX4_cut tkX4_cut (by decide) (by intro v hv; simp only [List.mem_cons, List.not_mem_nil, or_false] at hv; rcases hv with rfl | rfl | rfl | rfl <;> rfl) (Nat.le_of_ble_eq_true rfl) (fun z Q X hl hR hQ hE => ?_)
  subst hl
  refine (?_ : gMd z _ EV Q M0 am ad V 0 [some (.ref am), some (.int (iI a)), some (.int (iI b)), some (.int (iI k)), none] []) M0 hM0 gFr.rf
  have hs := mIs hI
  refine gm_run X 4 (pc1 := 4) (ls1 := [_, _, _, _, _]) (st1 := [_, _, _, _]) rfl ?_
  refine gm_callS X rfl mX4_168 (fun M => mc_isTrunk z.2.1 EV M (a := a) (b := b) (k := k) (by omega) (by omega) (by omega)) rfl rfl (Nat.le_of_ble_eq_true rfl) (gFit.of hR (by decide) (by decide) (by decide)) ?_
  refine gm_eq (st' := [.int (iI (bI (isTk a b k))), .ref am]) rfl rfl ?_
  refine gm_br X (pc1 := 14) (st1 := [_]) rfl (fun b9 => ?_) (fun b9 => ?_)
  · have c7 : isTk a b k := bI_t b9
    refine gm_run X 1 (pc1 := 15) (ls1 := [_, _, _, _, _]) (st1 := [_, _]) rfl ?_
    refine gm_get X rfl fX4_28 (v := .ref (ad 9)) rfl ?_
    refine gm_run X 2 (pc1 := 20) (ls1 := [_, _, _, _, _]) (st1 := [_, _, _, _]) rfl ?_
    refine gm_callS X rfl mX4_125 (fun M => mc_between z.2.1 EV M (a := a) (b := b) (by omega) (by omega)) rfl rfl (Nat.le_of_ble_eq_true rfl) (gFit.of hR (by decide) (by decide) (by decide)) ?_
    refine gm_eq (st' := [.int (iI (2 * ((a + b) - 1))), .ref (ad 9), .ref am]) rfl rfl ?_
    refine gm_run X 2 (pc1 := 25) (ls1 := [_, _, _, _, _]) (st1 := [_, _, _]) rfl ?_
    refine gm_eq (ls' := [some (.ref am), some (.int (iI a)), some (.int (iI b)), some (.int (iI k)), none]) (st' := [.int (iI ((2 * ((a + b) - 1)) + k)), .ref (ad 9), .ref am]) (by simp only [iI_add, iI_sub, iI_mul, iI_neg]) (by simp only [iI_add, iI_sub, iI_mul, iI_neg]) ?_
    refine gm_ald X 9 (x := ((2 * ((a + b) - 1)) + k)) (v := (V 9 ((2 * ((a + b) - 1)) + k).toNat)) rfl rfl (by decide) (by show (0:Int) ≤ ((2 * ((a + b) - 1)) + k) ∧ ((2 * ((a + b) - 1)) + k) < 6; omega) (rfl) ?_
    have b25 := mI9 hI (j := ((2 * ((a + b) - 1)) + k)) (by omega) (by omega)
    refine gm_run X 1 (pc1 := 28) (ls1 := [_, _, _, _, _]) (st1 := [_, _, _]) rfl ?_
    refine gm_br X (pc1 := 35) (st1 := [_]) rfl (fun b9 => ?_) (fun b9 => ?_)
    · have c28 : ¬ (V 9 ((2 * ((a + b) - 1)) + k).toNat) = (-2) := cNq b9 (by omega) (by omega)
      refine gm_run X 1 (pc1 := 36) (ls1 := [_, _, _, _, _]) (st1 := [_, _]) rfl ?_
      refine gm_put X (v := 0) rfl fX4_80 (by decide) rfl mSet0 ?_
      have hT : mCutT V a b k = 0 := by unfold mCutT; (repeat' split) <;> omega
      refine gm_run X 1 (pc1 := 40) (ls1 := [_, _, _, _, _]) (st1 := [_]) rfl ?_
      refine gm_get X rfl fX4_80 (v := .int (iI 0)) rfl ?_
      refine gm_br X (pc1 := 48) (st1 := []) rfl (fun b9 => ?_) (fun b9 => ?_)
      · have c43 : (0 : Int) ≤ (0 : Int) := cLe b9 (by omega) (by omega)
        refine gm_run X 1 (pc1 := 49) (ls1 := [_, _, _, _, _]) (st1 := [_]) rfl ?_
        refine gm_get X rfl fX4_28 (v := .ref (ad 9)) rfl ?_
        refine gm_run X 2 (pc1 := 54) (ls1 := [_, _, _, _, _]) (st1 := [_, _, _]) rfl ?_
        refine gm_callS X rfl mX4_125 (fun M => mc_between z.2.1 EV M (a := a) (b := b) (by omega) (by omega)) rfl rfl (Nat.le_of_ble_eq_true rfl) (gFit.of hR (by decide) (by decide) (by decide)) ?_
        refine gm_eq (st' := [.int (iI (2 * ((a + b) - 1))), .ref (ad 9)]) rfl rfl ?_
        refine gm_run X 2 (pc1 := 59) (ls1 := [_, _, _, _, _]) (st1 := [_, _]) rfl ?_
        refine gm_eq (ls' := [some (.ref am), some (.int (iI a)), some (.int (iI b)), some (.int (iI k)), none]) (st' := [.int (iI ((2 * ((a + b) - 1)) + k)), .ref (ad 9)]) (by simp only [iI_add, iI_sub, iI_mul, iI_neg]) (by simp only [iI_add, iI_sub, iI_mul, iI_neg]) ?_
        refine gm_ald X 9 (x := ((2 * ((a + b) - 1)) + k)) (v := (V 9 ((2 * ((a + b) - 1)) + k).toNat)) rfl rfl (by decide) (by show (0:Int) ≤ ((2 * ((a + b) - 1)) + k) ∧ ((2 * ((a + b) - 1)) + k) < 6; omega) (rfl) ?_
        have b59 := mI9 hI (j := ((2 * ((a + b) - 1)) + k)) (by omega) (by omega)
        refine gm_run X 3 (pc1 := 65) (ls1 := [_, _, _, _, _]) (st1 := [_, _]) rfl ?_
        refine gm_br X (pc1 := 117) (st1 := []) rfl (fun b9 => ?_) (fun b9 => ?_)
        · have c65 : (V 9 ((2 * ((a + b) - 1)) + k).toNat) = (-1) := cEq b9 (by omega) (by omega)
          refine gm_run X 1 (pc1 := 118) (ls1 := [_, _, _, _, _]) (st1 := [_]) rfl ?_
          refine gm_get X rfl fX4_28 (v := .ref (ad 9)) rfl ?_
          refine gm_run X 2 (pc1 := 123) (ls1 := [_, _, _, _, _]) (st1 := [_, _, _]) rfl ?_
          refine gm_callS X rfl mX4_125 (fun M => mc_between z.2.1 EV M (a := a) (b := b) (by omega) (by omega)) rfl rfl (Nat.le_of_ble_eq_true rfl) (gFit.of hR (by decide) (by decide) (by decide)) ?_
          refine gm_eq (st' := [.int (iI (2 * ((a + b) - 1))), .ref (ad 9)]) rfl rfl ?_
          refine gm_run X 3 (pc1 := 130) (ls1 := [_, _, _, _, _]) (st1 := [_, _, _]) rfl ?_
          refine gm_eq (ls' := [some (.ref am), some (.int (iI a)), some (.int (iI b)), some (.int (iI k)), some (.int (iI (V 9 ((2 * ((a + b) - 1)) + k).toNat)))]) (st' := [.int (iI (-2)), .int (iI ((2 * ((a + b) - 1)) + k)), .ref (ad 9)]) (by simp only [iI_add, iI_sub, iI_mul, iI_neg]) (by simp only [iI_add, iI_sub, iI_mul, iI_neg]) ?_
          refine gm_ast X 9 (x := ((2 * ((a + b) - 1)) + k)) (v := (-2)) rfl rfl (by decide) (by show (0:Int) ≤ ((2 * ((a + b) - 1)) + k) ∧ ((2 * ((a + b) - 1)) + k) < 6; omega) ?_
          refine gm_run X 1 (pc1 := 133) (ls1 := [_, _, _, _, _]) (st1 := [_]) rfl ?_
          exact gm_ret X hQ rfl rfl (by unfold mCut; rw [hT]; (repeat (first | rw [if_pos (by omega)] | rw [if_neg (by omega)])); all_goals (try rfl); all_goals (unfold mCut2; (repeat (first | rw [if_pos (by omega)] | rw [if_neg (by omega)])); all_goals (try rfl))) (by unfold mCut; rw [hT]; (repeat (first | rw [if_pos (by omega)] | rw [if_neg (by omega)])); all_goals (try rfl); all_goals (unfold mCut2; (repeat (first | rw [if_pos (by omega)] | rw [if_neg (by omega)])); all_goals (try rfl)))
        · have c65 : ¬ (V 9 ((2 * ((a + b) - 1)) + k).toNat) = (-1) := cNq b9 (by omega) (by omega)
          refine gm_run X 2 (pc1 := 71) (ls1 := [_, _, _, _, _]) (st1 := [_, _]) rfl ?_
          refine gm_callV X rfl mX4_164 (mc_ends z.2.1 EV am ad (c := (V 9 ((2 * ((a + b) - 1)) + k).toNat)) (by omega) (mI_0 hI) (by omega)) rfl rfl (Nat.le_of_ble_eq_true rfl) (gFit.of hR (by decide) (by decide) (by decide)) ?_
          refine gm_eq (st' := []) rfl rfl ?_
          have e16 : (mEnd (vS V 0 0 0) (V 9 ((2 * ((a + b) - 1)) + k).toNat)) 16 (V 9 ((2 * ((a + b) - 1)) + k).toNat).toNat = V 16 (V 9 ((2 * ((a + b) - 1)) + k).toNat).toNat := mEnd_k (by decide) (by decide)
          have b16 := mI16 hI (j := (V 9 ((2 * ((a + b) - 1)) + k).toNat)) (by omega) (by omega)
          have e1 : (mEnd (vS V 0 0 0) (V 9 ((2 * ((a + b) - 1)) + k).toNat)) 1 0 = V 1 0 := mEnd_k (by decide) (by decide)
          refine gm_run X 1 (pc1 := 75) (ls1 := [_, _, _, _, _]) (st1 := [_]) rfl ?_
          refine gm_get X rfl fX4_44 (v := .ref (ad 16)) rfl ?_
          refine gm_run X 1 (pc1 := 80) (ls1 := [_, _, _, _, _]) (st1 := [_, _]) rfl ?_
          refine gm_ald X 16 (x := (V 9 ((2 * ((a + b) - 1)) + k).toNat)) (v := ((mEnd (vS V 0 0 0) (V 9 ((2 * ((a + b) - 1)) + k).toNat)) 16 (V 9 ((2 * ((a + b) - 1)) + k).toNat).toNat)) rfl rfl (by decide) (by show (0:Int) ≤ (V 9 ((2 * ((a + b) - 1)) + k).toNat) ∧ (V 9 ((2 * ((a + b) - 1)) + k).toNat) < 60; omega) (rfl) ?_
          refine gm_run X 1 (pc1 := 82) (ls1 := [_, _, _, _, _]) (st1 := [_, _]) rfl ?_
          refine gm_br X (pc1 := 117) (st1 := []) rfl (fun b9 => ?_) (fun b9 => ?_)
          · have c82 : ((mEnd (vS V 0 0 0) (V 9 ((2 * ((a + b) - 1)) + k).toNat)) 16 (V 9 ((2 * ((a + b) - 1)) + k).toNat).toNat) = (-1) := cEq b9 (by omega) (by omega)
            refine gm_run X 1 (pc1 := 118) (ls1 := [_, _, _, _, _]) (st1 := [_]) rfl ?_
            refine gm_get X rfl fX4_28 (v := .ref (ad 9)) rfl ?_
            refine gm_run X 2 (pc1 := 123) (ls1 := [_, _, _, _, _]) (st1 := [_, _, _]) rfl ?_
            refine gm_callS X rfl mX4_125 (fun M => mc_between z.2.1 EV M (a := a) (b := b) (by omega) (by omega)) rfl rfl (Nat.le_of_ble_eq_true rfl) (gFit.of hR (by decide) (by decide) (by decide)) ?_
            refine gm_eq (st' := [.int (iI (2 * ((a + b) - 1))), .ref (ad 9)]) rfl rfl ?_
            refine gm_run X 3 (pc1 := 130) (ls1 := [_, _, _, _, _]) (st1 := [_, _, _]) rfl ?_
            refine gm_eq (ls' := [some (.ref am), some (.int (iI a)), some (.int (iI b)), some (.int (iI k)), some (.int (iI (V 9 ((2 * ((a + b) - 1)) + k).toNat)))]) (st' := [.int (iI (-2)), .int (iI ((2 * ((a + b) - 1)) + k)), .ref (ad 9)]) (by simp only [iI_add, iI_sub, iI_mul, iI_neg]) (by simp only [iI_add, iI_sub, iI_mul, iI_neg]) ?_
            refine gm_ast X 9 (x := ((2 * ((a + b) - 1)) + k)) (v := (-2)) rfl rfl (by decide) (by show (0:Int) ≤ ((2 * ((a + b) - 1)) + k) ∧ ((2 * ((a + b) - 1)) + k) < 6; omega) ?_
            refine gm_run X 1 (pc1 := 133) (ls1 := [_, _, _, _, _]) (st1 := [_]) rfl ?_
            exact gm_ret X hQ rfl rfl (by unfold mCut; rw [hT]; (repeat (first | rw [if_pos (by omega)] | rw [if_neg (by omega)])); all_goals (try rfl); all_goals (unfold mCut2; (repeat (first | rw [if_pos (by omega)] | rw [if_neg (by omega)])); all_goals (try rfl))) (by unfold mCut; rw [hT]; (repeat (first | rw [if_pos (by omega)] | rw [if_neg (by omega)])); all_goals (try rfl); all_goals (unfold mCut2; (repeat (first | rw [if_pos (by omega)] | rw [if_neg (by omega)])); all_goals (try rfl)))
          · have c82 : ¬ ((mEnd (vS V 0 0 0) (V 9 ((2 * ((a + b) - 1)) + k).toNat)) 16 (V 9 ((2 * ((a + b) - 1)) + k).toNat).toNat) = (-1) := cNq b9 (by omega) (by omega)
            refine gm_run X 1 (pc1 := 86) (ls1 := [_, _, _, _, _]) (st1 := [_]) rfl ?_
            refine gm_get X rfl fX4_47 (v := .ref (ad 18)) rfl ?_
            refine gm_run X 1 (pc1 := 90) (ls1 := [_, _, _, _, _]) (st1 := [_, _]) rfl ?_
            refine gm_get X rfl fX4_44 (v := .ref (ad 16)) rfl ?_
            refine gm_run X 1 (pc1 := 95) (ls1 := [_, _, _, _, _]) (st1 := [_, _, _]) rfl ?_
            refine gm_ald X 16 (x := (V 9 ((2 * ((a + b) - 1)) + k).toNat)) (v := ((mEnd (vS V 0 0 0) (V 9 ((2 * ((a + b) - 1)) + k).toNat)) 16 (V 9 ((2 * ((a + b) - 1)) + k).toNat).toNat)) rfl rfl (by decide) (by show (0:Int) ≤ (V 9 ((2 * ((a + b) - 1)) + k).toNat) ∧ (V 9 ((2 * ((a + b) - 1)) + k).toNat) < 60; omega) (rfl) ?_
            refine gm_run X 1 (pc1 := 97) (ls1 := [_, _, _, _, _]) (st1 := [_, _, _]) rfl ?_
            refine gm_ast X 18 (x := ((mEnd (vS V 0 0 0) (V 9 ((2 * ((a + b) - 1)) + k).toNat)) 16 (V 9 ((2 * ((a + b) - 1)) + k).toNat).toNat)) (v := 1) rfl rfl (by decide) (by show (0:Int) ≤ ((mEnd (vS V 0 0 0) (V 9 ((2 * ((a + b) - 1)) + k).toNat)) 16 (V 9 ((2 * ((a + b) - 1)) + k).toNat).toNat) ∧ ((mEnd (vS V 0 0 0) (V 9 ((2 * ((a + b) - 1)) + k).toNat)) 16 (V 9 ((2 * ((a + b) - 1)) + k).toNat).toNat) < 40; omega) ?_
            refine gm_run X 1 (pc1 := 99) (ls1 := [_, _, _, _, _]) (st1 := [_]) rfl ?_
            refine gm_get X rfl fX4_59 (v := .ref (ad 22)) rfl ?_
            refine gm_run X 1 (pc1 := 103) (ls1 := [_, _, _, _, _]) (st1 := [_, _]) rfl ?_
            refine gm_get X rfl fX4_44 (v := .ref (ad 16)) rfl ?_
            refine gm_run X 1 (pc1 := 108) (ls1 := [_, _, _, _, _]) (st1 := [_, _, _]) rfl ?_
            refine gm_ald X 16 (x := (V 9 ((2 * ((a + b) - 1)) + k).toNat)) (v := ((mEnd (vS V 0 0 0) (V 9 ((2 * ((a + b) - 1)) + k).toNat)) 16 (V 9 ((2 * ((a + b) - 1)) + k).toNat).toNat)) rfl rfl (by decide) (by show (0:Int) ≤ (V 9 ((2 * ((a + b) - 1)) + k).toNat) ∧ (V 9 ((2 * ((a + b) - 1)) + k).toNat) < 60; omega) (rfl) ?_
            refine gm_run X 1 (pc1 := 110) (ls1 := [_, _, _, _, _]) (st1 := [_, _, _]) rfl ?_
            refine gm_get X rfl fX4_171 (v := .int (iI ((mEnd (vS V 0 0 0) (V 9 ((2 * ((a + b) - 1)) + k).toNat)) 1 0))) rfl ?_
            refine gm_run X 2 (pc1 := 116) (ls1 := [_, _, _, _, _]) (st1 := [_, _, _]) rfl ?_
            refine gm_eq (ls' := [some (.ref am), some (.int (iI a)), some (.int (iI b)), some (.int (iI k)), some (.int (iI (V 9 ((2 * ((a + b) - 1)) + k).toNat)))]) (st' := [.int (iI (((mEnd (vS V 0 0 0) (V 9 ((2 * ((a + b) - 1)) + k).toNat)) 1 0) + 10)), .int (iI ((mEnd (vS V 0 0 0) (V 9 ((2 * ((a + b) - 1)) + k).toNat)) 16 (V 9 ((2 * ((a + b) - 1)) + k).toNat).toNat)), .ref (ad 22)]) (by simp only [iI_add, iI_sub, iI_mul, iI_neg]) (by simp only [iI_add, iI_sub, iI_mul, iI_neg]) ?_
            refine gm_ast X 22 (x := ((mEnd (vS V 0 0 0) (V 9 ((2 * ((a + b) - 1)) + k).toNat)) 16 (V 9 ((2 * ((a + b) - 1)) + k).toNat).toNat)) (v := (((mEnd (vS V 0 0 0) (V 9 ((2 * ((a + b) - 1)) + k).toNat)) 1 0) + 10)) rfl rfl (by decide) (by show (0:Int) ≤ ((mEnd (vS V 0 0 0) (V 9 ((2 * ((a + b) - 1)) + k).toNat)) 16 (V 9 ((2 * ((a + b) - 1)) + k).toNat).toNat) ∧ ((mEnd (vS V 0 0 0) (V 9 ((2 * ((a + b) - 1)) + k).toNat)) 16 (V 9 ((2 * ((a + b) - 1)) + k).toNat).toNat) < 40; omega) ?_
            refine gm_run X 1 (pc1 := 118) (ls1 := [_, _, _, _, _]) (st1 := [_]) rfl ?_
            refine gm_get X rfl fX4_28 (v := .ref (ad 9)) rfl ?_
            refine gm_run X 2 (pc1 := 123) (ls1 := [_, _, _, _, _]) (st1 := [_, _, _]) rfl ?_
            refine gm_callS X rfl mX4_125 (fun M => mc_between z.2.1 EV M (a := a) (b := b) (by omega) (by omega)) rfl rfl (Nat.le_of_ble_eq_true rfl) (gFit.of hR (by decide) (by decide) (by decide)) ?_
            refine gm_eq (st' := [.int (iI (2 * ((a + b) - 1))), .ref (ad 9)]) rfl rfl ?_
            refine gm_run X 3 (pc1 := 130) (ls1 := [_, _, _, _, _]) (st1 := [_, _, _]) rfl ?_
            refine gm_eq (ls' := [some (.ref am), some (.int (iI a)), some (.int (iI b)), some (.int (iI k)), some (.int (iI (V 9 ((2 * ((a + b) - 1)) + k).toNat)))]) (st' := [.int (iI (-2)), .int (iI ((2 * ((a + b) - 1)) + k)), .ref (ad 9)]) (by simp only [iI_add, iI_sub, iI_mul, iI_neg]) (by simp only [iI_add, iI_sub, iI_mul, iI_neg]) ?_
            refine gm_ast X 9 (x := ((2 * ((a + b) - 1)) + k)) (v := (-2)) rfl rfl (by decide) (by show (0:Int) ≤ ((2 * ((a + b) - 1)) + k) ∧ ((2 * ((a + b) - 1)) + k) < 6; omega) ?_
            refine gm_run X 1 (pc1 := 133) (ls1 := [_, _, _, _, _]) (st1 := [_]) rfl ?_
            exact gm_ret X hQ rfl rfl (by unfold mCut; rw [hT]; (repeat (first | rw [if_pos (by omega)] | rw [if_neg (by omega)])); all_goals (try rfl); all_goals (unfold mCut2; (repeat (first | rw [if_pos (by omega)] | rw [if_neg (by omega)])); all_goals (try rfl))) (by unfold mCut; rw [hT]; (repeat (first | rw [if_pos (by omega)] | rw [if_neg (by omega)])); all_goals (try rfl); all_goals (unfold mCut2; (repeat (first | rw [if_pos (by omega)] | rw [if_neg (by omega)])); all_goals (try rfl)))
      · have c43 : (0 : Int) < (0 : Int) := cNe b9 (by omega) (by omega)
        exact absurd c43 (by omega)
    · have c28 : (V 9 ((2 * ((a + b) - 1)) + k).toNat) = (-2) := cEq b9 (by omega) (by omega)
      refine gm_run X 2 (pc1 := 36) (ls1 := [_, _, _, _, _]) (st1 := [_, _]) rfl ?_
      refine gm_put X (v := 2) rfl fX4_80 (by decide) rfl mSet0 ?_
      have hT : mCutT V a b k = 2 := by unfold mCutT; (repeat' split) <;> omega
      refine gm_run X 1 (pc1 := 40) (ls1 := [_, _, _, _, _]) (st1 := [_]) rfl ?_
      refine gm_get X rfl fX4_80 (v := .int (iI 2)) rfl ?_
      refine gm_br X (pc1 := 48) (st1 := []) rfl (fun b9 => ?_) (fun b9 => ?_)
      · have c43 : (2 : Int) ≤ (0 : Int) := cLe b9 (by omega) (by omega)
        exact absurd c43 (by omega)
      · have c43 : (0 : Int) < (2 : Int) := cNe b9 (by omega) (by omega)
        refine gm_run X 1 (pc1 := 47) (ls1 := [_, _, _, _, _]) (st1 := [_]) rfl ?_
        exact gm_ret X hQ rfl rfl (by unfold mCut; rw [hT]; (repeat (first | rw [if_pos (by omega)] | rw [if_neg (by omega)])); all_goals (try rfl); all_goals (unfold mCut2; (repeat (first | rw [if_pos (by omega)] | rw [if_neg (by omega)])); all_goals (try rfl))) (by unfold mCut; rw [hT]; (repeat (first | rw [if_pos (by omega)] | rw [if_neg (by omega)])); all_goals (try rfl); all_goals (unfold mCut2; (repeat (first | rw [if_pos (by omega)] | rw [if_neg (by omega)])); all_goals (try rfl)))
  · have c7 : ¬ (isTk a b k) := bI_f b9
    refine gm_run X 2 (pc1 := 36) (ls1 := [_, _, _, _, _]) (st1 := [_, _]) rfl ?_
    refine gm_put X (v := 1) rfl fX4_80 (by decide) rfl mSet0 ?_
    have hT : mCutT V a b k = 1 := by unfold mCutT; (repeat' split) <;> omega
    refine gm_run X 1 (pc1 := 40) (ls1 := [_, _, _, _, _]) (st1 := [_]) rfl ?_
    refine gm_get X rfl fX4_80 (v := .int (iI 1)) rfl ?_
    refine gm_br X (pc1 := 48) (st1 := []) rfl (fun b9 => ?_) (fun b9 => ?_)
    · have c43 : (1 : Int) ≤ (0 : Int) := cLe b9 (by omega) (by omega)
      exact absurd c43 (by omega)
    · have c43 : (0 : Int) < (1 : Int) := cNe b9 (by omega) (by omega)
      refine gm_run X 1 (pc1 := 47) (ls1 := [_, _, _, _, _]) (st1 := [_]) rfl ?_
      exact gm_ret X hQ rfl rfl (by unfold mCut; rw [hT]; (repeat (first | rw [if_pos (by omega)] | rw [if_neg (by omega)])); all_goals (try rfl); all_goals (unfold mCut2; (repeat (first | rw [if_pos (by omega)] | rw [if_neg (by omega)])); all_goals (try rfl))) (by unfold mCut; rw [hT]; (repeat (first | rw [if_pos (by omega)] | rw [if_neg (by omega)])); all_goals (try rfl); all_goals (unfold mCut2; (repeat (first | rw [if_pos (by omega)] | rw [if_neg (by omega)])); all_goals (try rfl)))
set_option maxHeartbeats 1000000 in
theorem mc_mend (l : Launch) (EV : gEV) (am : Nat) (ad : Nat → Nat) {V : gV} {a : Int} (ha : inR a) {b : Int} (hb : inR b) {k : Int} (hk : inR k) (hI : mI V) : MC l yX4_mend cX4_mend 4 none 5 EV am ad [.int (iI a), .int (iI b), .int (iI k)] V (none) ((mMend V a b k).2) := by
  intro M0 hM0
  refine g_body tbX4_mend tkX4_mend (by decide) (by intro v hv; simp only [List.mem_cons, List.not_mem_nil, or_false] at hv; rcases hv with rfl | rfl | rfl | rfl <;> rfl) (Nat.le_of_ble_eq_true rfl) (fun z Q X hl hR hQ hE => ?_)
  subst hl
  refine (?_ : gMd z _ EV Q M0 am ad V 0 [some (.ref am), some (.int (iI a)), some (.int (iI b)), some (.int (iI k))] []) M0 hM0 gFr.rf
  have hs := mIs hI
  refine gm_run X 4 (pc1 := 4) (ls1 := [_, _, _, _]) (st1 := [_, _, _, _]) rfl ?_
  refine gm_callS X rfl mX4_168 (fun M => mc_isTrunk z.2.1 EV M (a := a) (b := b) (k := k) (by omega) (by omega) (by omega)) rfl rfl (Nat.le_of_ble_eq_true rfl) (gFit.of hR (by decide) (by decide) (by decide)) ?_
  refine gm_eq (st' := [.int (iI (bI (isTk a b k))), .ref am]) rfl rfl ?_
  refine gm_br X (pc1 := 14) (st1 := [_]) rfl (fun b9 => ?_) (fun b9 => ?_)
  · have c7 : isTk a b k := bI_t b9
    refine gm_run X 1 (pc1 := 15) (ls1 := [_, _, _, _]) (st1 := [_, _]) rfl ?_
    refine gm_get X rfl fX4_28 (v := .ref (ad 9)) rfl ?_
    refine gm_run X 2 (pc1 := 20) (ls1 := [_, _, _, _]) (st1 := [_, _, _, _]) rfl ?_
    refine gm_callS X rfl mX4_125 (fun M => mc_between z.2.1 EV M (a := a) (b := b) (by omega) (by omega)) rfl rfl (Nat.le_of_ble_eq_true rfl) (gFit.of hR (by decide) (by decide) (by decide)) ?_
    refine gm_eq (st' := [.int (iI (2 * ((a + b) - 1))), .ref (ad 9), .ref am]) rfl rfl ?_
    refine gm_run X 2 (pc1 := 25) (ls1 := [_, _, _, _]) (st1 := [_, _, _]) rfl ?_
    refine gm_eq (ls' := [some (.ref am), some (.int (iI a)), some (.int (iI b)), some (.int (iI k))]) (st' := [.int (iI ((2 * ((a + b) - 1)) + k)), .ref (ad 9), .ref am]) (by simp only [iI_add, iI_sub, iI_mul, iI_neg]) (by simp only [iI_add, iI_sub, iI_mul, iI_neg]) ?_
    refine gm_ald X 9 (x := ((2 * ((a + b) - 1)) + k)) (v := (V 9 ((2 * ((a + b) - 1)) + k).toNat)) rfl rfl (by decide) (by show (0:Int) ≤ ((2 * ((a + b) - 1)) + k) ∧ ((2 * ((a + b) - 1)) + k) < 6; omega) (rfl) ?_
    have b25 := mI9 hI (j := ((2 * ((a + b) - 1)) + k)) (by omega) (by omega)
    refine gm_run X 1 (pc1 := 28) (ls1 := [_, _, _, _]) (st1 := [_, _, _]) rfl ?_
    refine gm_br X (pc1 := 35) (st1 := [_]) rfl (fun b9 => ?_) (fun b9 => ?_)
    · have c28 : (V 9 ((2 * ((a + b) - 1)) + k).toNat) = (-2) := cEq b9 (by omega) (by omega)
      refine gm_run X 1 (pc1 := 36) (ls1 := [_, _, _, _]) (st1 := [_, _]) rfl ?_
      refine gm_put X (v := 0) rfl fX4_80 (by decide) rfl mSet0 ?_
      have hT : mMendT V a b k = 0 := by unfold mMendT; (repeat' split) <;> omega
      refine gm_run X 1 (pc1 := 40) (ls1 := [_, _, _, _]) (st1 := [_]) rfl ?_
      refine gm_get X rfl fX4_80 (v := .int (iI 0)) rfl ?_
      refine gm_br X (pc1 := 59) (st1 := []) rfl (fun b9 => ?_) (fun b9 => ?_)
      · have c43 : ¬ (0 : Int) = (0 : Int) := cNq b9 (by omega) (by omega)
        exact absurd c43 (by omega)
      · have c43 : (0 : Int) = (0 : Int) := cEq b9 (by omega) (by omega)
        refine gm_run X 1 (pc1 := 47) (ls1 := [_, _, _, _]) (st1 := [_]) rfl ?_
        refine gm_get X rfl fX4_28 (v := .ref (ad 9)) rfl ?_
        refine gm_run X 2 (pc1 := 52) (ls1 := [_, _, _, _]) (st1 := [_, _, _]) rfl ?_
        refine gm_callS X rfl mX4_125 (fun M => mc_between z.2.1 EV M (a := a) (b := b) (by omega) (by omega)) rfl rfl (Nat.le_of_ble_eq_true rfl) (gFit.of hR (by decide) (by decide) (by decide)) ?_
        refine gm_eq (st' := [.int (iI (2 * ((a + b) - 1))), .ref (ad 9)]) rfl rfl ?_
        refine gm_run X 3 (pc1 := 58) (ls1 := [_, _, _, _]) (st1 := [_, _, _]) rfl ?_
        refine gm_eq (ls' := [some (.ref am), some (.int (iI a)), some (.int (iI b)), some (.int (iI k))]) (st' := [.int (iI (-1)), .int (iI ((2 * ((a + b) - 1)) + k)), .ref (ad 9)]) (by simp only [iI_add, iI_sub, iI_mul, iI_neg]) (by simp only [iI_add, iI_sub, iI_mul, iI_neg]) ?_
        refine gm_ast X 9 (x := ((2 * ((a + b) - 1)) + k)) (v := (-1)) rfl rfl (by decide) (by show (0:Int) ≤ ((2 * ((a + b) - 1)) + k) ∧ ((2 * ((a + b) - 1)) + k) < 6; omega) ?_
        exact gm_vret X hQ rfl rfl rfl (by unfold mMend; rw [hT]; (repeat (first | rw [if_pos (by omega)] | rw [if_neg (by omega)])); all_goals (try rfl))
    · have c28 : ¬ (V 9 ((2 * ((a + b) - 1)) + k).toNat) = (-2) := cNq b9 (by omega) (by omega)
      refine gm_run X 2 (pc1 := 36) (ls1 := [_, _, _, _]) (st1 := [_, _]) rfl ?_
      refine gm_put X (v := 2) rfl fX4_80 (by decide) rfl mSet0 ?_
      have hT : mMendT V a b k = 2 := by unfold mMendT; (repeat' split) <;> omega
      refine gm_run X 1 (pc1 := 40) (ls1 := [_, _, _, _]) (st1 := [_]) rfl ?_
      refine gm_get X rfl fX4_80 (v := .int (iI 2)) rfl ?_
      refine gm_br X (pc1 := 59) (st1 := []) rfl (fun b9 => ?_) (fun b9 => ?_)
      · have c43 : ¬ (2 : Int) = (0 : Int) := cNq b9 (by omega) (by omega)
        exact gm_vret X hQ rfl rfl rfl (by unfold mMend; rw [hT]; (repeat (first | rw [if_pos (by omega)] | rw [if_neg (by omega)])); all_goals (try rfl))
      · have c43 : (2 : Int) = (0 : Int) := cEq b9 (by omega) (by omega)
        exact absurd c43 (by omega)
  · have c7 : ¬ (isTk a b k) := bI_f b9
    refine gm_run X 2 (pc1 := 36) (ls1 := [_, _, _, _]) (st1 := [_, _]) rfl ?_
    refine gm_put X (v := 1) rfl fX4_80 (by decide) rfl mSet0 ?_
    have hT : mMendT V a b k = 1 := by unfold mMendT; (repeat' split) <;> omega
    refine gm_run X 1 (pc1 := 40) (ls1 := [_, _, _, _]) (st1 := [_]) rfl ?_
    refine gm_get X rfl fX4_80 (v := .int (iI 1)) rfl ?_
    refine gm_br X (pc1 := 59) (st1 := []) rfl (fun b9 => ?_) (fun b9 => ?_)
    · have c43 : ¬ (1 : Int) = (0 : Int) := cNq b9 (by omega) (by omega)
      exact gm_vret X hQ rfl rfl rfl (by unfold mMend; rw [hT]; (repeat (first | rw [if_pos (by omega)] | rw [if_neg (by omega)])); all_goals (try rfl))
    · have c43 : (1 : Int) = (0 : Int) := cEq b9 (by omega) (by omega)
      exact absurd c43 (by omega)
set_option maxHeartbeats 1000000 in
theorem mc_trunk (l : Launch) (EV : gEV) (am : Nat) (ad : Nat → Nat) {V : gV} {a : Int} (ha : inR a) {b : Int} (hb : inR b) {k : Int} (hk : inR k) (hI : mI V) : MC l yX4_trunk cX4_trunk 4 (some .int) 5 EV am ad [.int (iI a), .int (iI b), .int (iI k)] V (some (.int (iI (mTrk V a b k).1))) ((mTrk V a b k).2) := by
  intro M0 hM0
  refine g_body tbX4_trunk tkX4_trunk (by decide) (by intro v hv; simp only [List.mem_cons, List.not_mem_nil, or_false] at hv; rcases hv with rfl | rfl | rfl | rfl <;> rfl) (Nat.le_of_ble_eq_true rfl) (fun z Q X hl hR hQ hE => ?_)
  subst hl
  refine (?_ : gMd z _ EV Q M0 am ad V 0 [some (.ref am), some (.int (iI a)), some (.int (iI b)), some (.int (iI k))] []) M0 hM0 gFr.rf
  have hs := mIs hI
  refine gm_run X 4 (pc1 := 4) (ls1 := [_, _, _, _]) (st1 := [_, _, _, _]) rfl ?_
  refine gm_callS X rfl mX4_168 (fun M => mc_isTrunk z.2.1 EV M (a := a) (b := b) (k := k) (by omega) (by omega) (by omega)) rfl rfl (Nat.le_of_ble_eq_true rfl) (gFit.of hR (by decide) (by decide) (by decide)) ?_
  refine gm_eq (st' := [.int (iI (bI (isTk a b k))), .ref am]) rfl rfl ?_
  refine gm_br X (pc1 := 14) (st1 := [_]) rfl (fun b9 => ?_) (fun b9 => ?_)
  · have c7 : ¬ (isTk a b k) := bI_f b9
    refine gm_run X 1 (pc1 := 15) (ls1 := [_, _, _, _]) (st1 := [_, _]) rfl ?_
    refine gm_put X (v := 1) rfl fX4_80 (by decide) rfl mSet0 ?_
    have hT : mTrkT V a b k = 1 := by unfold mTrkT; (repeat' split) <;> omega
    refine gm_run X 1 (pc1 := 19) (ls1 := [_, _, _, _]) (st1 := [_]) rfl ?_
    refine gm_get X rfl fX4_80 (v := .int (iI 1)) rfl ?_
    refine gm_br X (pc1 := 29) (st1 := []) rfl (fun b9 => ?_) (fun b9 => ?_)
    · have c22 : (1 : Int) ≤ (0 : Int) := cLe b9 (by omega) (by omega)
      exact absurd c22 (by omega)
    · have c22 : (0 : Int) < (1 : Int) := cNe b9 (by omega) (by omega)
      refine gm_run X 2 (pc1 := 41) (ls1 := [_, _, _, _]) (st1 := [_]) rfl ?_
      exact gm_ret X hQ rfl rfl (by unfold mTrk; rw [hT]; (repeat (first | rw [if_pos (by omega)] | rw [if_neg (by omega)])); all_goals (try rfl)) (by unfold mTrk; rw [hT]; (repeat (first | rw [if_pos (by omega)] | rw [if_neg (by omega)])); all_goals (try rfl))
  · have c7 : isTk a b k := bI_t b9
    refine gm_run X 2 (pc1 := 15) (ls1 := [_, _, _, _]) (st1 := [_, _]) rfl ?_
    refine gm_put X (v := 0) rfl fX4_80 (by decide) rfl mSet0 ?_
    have hT : mTrkT V a b k = 0 := by unfold mTrkT; (repeat' split) <;> omega
    refine gm_run X 1 (pc1 := 19) (ls1 := [_, _, _, _]) (st1 := [_]) rfl ?_
    refine gm_get X rfl fX4_80 (v := .int (iI 0)) rfl ?_
    refine gm_br X (pc1 := 29) (st1 := []) rfl (fun b9 => ?_) (fun b9 => ?_)
    · have c22 : (0 : Int) ≤ (0 : Int) := cLe b9 (by omega) (by omega)
      refine gm_run X 1 (pc1 := 30) (ls1 := [_, _, _, _]) (st1 := [_]) rfl ?_
      refine gm_get X rfl fX4_28 (v := .ref (ad 9)) rfl ?_
      refine gm_run X 2 (pc1 := 35) (ls1 := [_, _, _, _]) (st1 := [_, _, _]) rfl ?_
      refine gm_callS X rfl mX4_125 (fun M => mc_between z.2.1 EV M (a := a) (b := b) (by omega) (by omega)) rfl rfl (Nat.le_of_ble_eq_true rfl) (gFit.of hR (by decide) (by decide) (by decide)) ?_
      refine gm_eq (st' := [.int (iI (2 * ((a + b) - 1))), .ref (ad 9)]) rfl rfl ?_
      refine gm_run X 2 (pc1 := 40) (ls1 := [_, _, _, _]) (st1 := [_, _]) rfl ?_
      refine gm_eq (ls' := [some (.ref am), some (.int (iI a)), some (.int (iI b)), some (.int (iI k))]) (st' := [.int (iI ((2 * ((a + b) - 1)) + k)), .ref (ad 9)]) (by simp only [iI_add, iI_sub, iI_mul, iI_neg]) (by simp only [iI_add, iI_sub, iI_mul, iI_neg]) ?_
      refine gm_ald X 9 (x := ((2 * ((a + b) - 1)) + k)) (v := (V 9 ((2 * ((a + b) - 1)) + k).toNat)) rfl rfl (by decide) (by show (0:Int) ≤ ((2 * ((a + b) - 1)) + k) ∧ ((2 * ((a + b) - 1)) + k) < 6; omega) (rfl) ?_
      have b40 := mI9 hI (j := ((2 * ((a + b) - 1)) + k)) (by omega) (by omega)
      exact gm_ret X hQ rfl rfl (by unfold mTrk; rw [hT]; (repeat (first | rw [if_pos (by omega)] | rw [if_neg (by omega)])); all_goals (try rfl)) (by unfold mTrk; rw [hT]; (repeat (first | rw [if_pos (by omega)] | rw [if_neg (by omega)])); all_goals (try rfl))
    · have c22 : (0 : Int) < (0 : Int) := cNe b9 (by omega) (by omega)
      exact absurd c22 (by omega)
set_option maxHeartbeats 1000000 in
theorem mc_setLines (l : Launch) (EV : gEV) (am : Nat) (ad : Nat → Nat) {V : gV} {y : Int} (hy : inR y) {q : Int} (hq : inR q) (hI : mI V) : MC l yX4_setLines cX4_setLines 4 (some .int) 4 EV am ad [.int (iI y), .int (iI q)] V (some (.int (iI (mLin V y q).1))) ((mLin V y q).2) := by
  intro M0 hM0
  refine g_body tbX4_setLines tkX4_setLines (by decide) (by intro v hv; simp only [List.mem_cons, List.not_mem_nil, or_false] at hv; rcases hv with rfl | rfl | rfl <;> rfl) (Nat.le_of_ble_eq_true rfl) (fun z Q X hl hR hQ hE => ?_)
  subst hl
  refine (?_ : gMd z _ EV Q M0 am ad V 0 [some (.ref am), some (.int (iI y)), some (.int (iI q)), none] []) M0 hM0 gFr.rf
  have hs := mIs hI
  refine gm_run X 2 (pc1 := 2) (ls1 := [_, _, _, _]) (st1 := [_, _]) rfl ?_
  refine gm_callS X rfl mX4_88 (fun M => mc_isYard z.2.1 EV M (y := y) (by omega)) rfl rfl (Nat.le_of_ble_eq_true rfl) (gFit.of hR (by decide) (by decide) (by decide)) ?_
  refine gm_eq (st' := [.int (iI (bI (isYd y))), .ref am]) rfl rfl ?_
  refine gm_br X (pc1 := 17) (st1 := [_]) rfl (fun b9 => ?_) (fun b9 => ?_)
  · have c5 : ¬ (isYd y) := bI_f b9
    refine gm_run X 2 (pc1 := 35) (ls1 := [_, _, _, _]) (st1 := [_, _]) rfl ?_
    refine gm_put X (v := 1) rfl fX4_80 (by decide) rfl mSet0 ?_
    have hT : mLinT V y q = 1 := by unfold mLinT; (repeat' split) <;> omega
    refine gm_run X 1 (pc1 := 39) (ls1 := [_, _, _, _]) (st1 := [_]) rfl ?_
    refine gm_get X rfl fX4_80 (v := .int (iI 1)) rfl ?_
    refine gm_br X (pc1 := 47) (st1 := []) rfl (fun b9 => ?_) (fun b9 => ?_)
    · have c42 : (1 : Int) ≤ (0 : Int) := cLe b9 (by omega) (by omega)
      exact absurd c42 (by omega)
    · have c42 : (0 : Int) < (1 : Int) := cNe b9 (by omega) (by omega)
      refine gm_run X 1 (pc1 := 46) (ls1 := [_, _, _, _]) (st1 := [_]) rfl ?_
      exact gm_ret X hQ rfl rfl (by unfold mLin; rw [hT]; (repeat (first | rw [if_pos (by omega)] | rw [if_neg (by omega)])); all_goals (try rfl)) (by unfold mLin; rw [hT]; (repeat (first | rw [if_pos (by omega)] | rw [if_neg (by omega)])); all_goals (try rfl))
  · have c5 : isYd y := bI_t b9
    refine gm_run X 3 (pc1 := 11) (ls1 := [_, _, _, _]) (st1 := [_, _, _, _]) rfl ?_
    refine gm_callS X rfl mX4_84 (fun M => mc_in z.2.1 EV M (v := q) (lo := 0) (hi := 3) (by omega) (by omega) (by omega)) rfl rfl (Nat.le_of_ble_eq_true rfl) (gFit.of hR (by decide) (by decide) (by decide)) ?_
    refine gm_eq (st' := [.int (iI (bI (0 ≤ q ∧ q ≤ 3))), .ref am]) rfl rfl ?_
    refine gm_br X (pc1 := 21) (st1 := [_]) rfl (fun b9 => ?_) (fun b9 => ?_)
    · have c14 : 0 ≤ q ∧ q ≤ 3 := bI_t b9
      refine gm_run X 2 (pc1 := 23) (ls1 := [_, _, _, _]) (st1 := [_, _, _]) rfl ?_
      refine gm_callV X rfl mX4_136 (mc_callsTo z.2.1 EV am ad (c := y) (by omega) hI) rfl rfl (Nat.le_of_ble_eq_true rfl) (gFit.of hR (by decide) (by decide) (by decide)) ?_
      refine gm_eq (st' := [.int (iI (mCT V y (V 11 0).toNat)), .ref am]) rfl rfl ?_
      have r23 := mCT_r V y (V 11 0).toNat
      refine gm_run X 1 (pc1 := 27) (ls1 := [_, _, _, _]) (st1 := [_, _, _]) rfl ?_
      refine gm_br X (pc1 := 34) (st1 := [_]) rfl (fun b9 => ?_) (fun b9 => ?_)
      · have c27 : (mCT V y (V 11 0).toNat) ≤ q := cLe b9 (by omega) (by omega)
        refine gm_run X 1 (pc1 := 35) (ls1 := [_, _, _, _]) (st1 := [_, _]) rfl ?_
        refine gm_put X (v := 0) rfl fX4_80 (by decide) rfl mSet0 ?_
        have hT : mLinT V y q = 0 := by unfold mLinT; (repeat' split) <;> omega
        refine gm_run X 1 (pc1 := 39) (ls1 := [_, _, _, _]) (st1 := [_]) rfl ?_
        refine gm_get X rfl fX4_80 (v := .int (iI 0)) rfl ?_
        refine gm_br X (pc1 := 47) (st1 := []) rfl (fun b9 => ?_) (fun b9 => ?_)
        · have c42 : (0 : Int) ≤ (0 : Int) := cLe b9 (by omega) (by omega)
          refine gm_run X 1 (pc1 := 48) (ls1 := [_, _, _, _]) (st1 := [_]) rfl ?_
          refine gm_get X rfl fX4_31 (v := .ref (ad 10)) rfl ?_
          refine gm_run X 1 (pc1 := 52) (ls1 := [_, _, _, _]) (st1 := [_, _]) rfl ?_
          refine gm_ald X 10 (x := y) (v := (V 10 y.toNat)) rfl rfl (by decide) (by show (0:Int) ≤ y ∧ y < 3; omega) (rfl) ?_
          have b52 := mI10 hI (j := y) (by omega) (by omega)
          refine gm_run X 2 (pc1 := 55) (ls1 := [_, _, _, _]) (st1 := [_]) rfl ?_
          refine gm_get X rfl fX4_31 (v := .ref (ad 10)) rfl ?_
          refine gm_run X 2 (pc1 := 60) (ls1 := [_, _, _, _]) (st1 := [_, _, _]) rfl ?_
          refine gm_ast X 10 (x := y) (v := q) rfl rfl (by decide) (by show (0:Int) ≤ y ∧ y < 3; omega) ?_
          refine gm_run X 1 (pc1 := 62) (ls1 := [_, _, _, _]) (st1 := [_]) rfl ?_
          exact gm_ret X hQ rfl rfl (by unfold mLin; rw [hT]; (repeat (first | rw [if_pos (by omega)] | rw [if_neg (by omega)])); all_goals (try rfl)) (by unfold mLin; rw [hT]; (repeat (first | rw [if_pos (by omega)] | rw [if_neg (by omega)])); all_goals (try rfl))
        · have c42 : (0 : Int) < (0 : Int) := cNe b9 (by omega) (by omega)
          exact absurd c42 (by omega)
      · have c27 : q < (mCT V y (V 11 0).toNat) := cNe b9 (by omega) (by omega)
        refine gm_run X 2 (pc1 := 35) (ls1 := [_, _, _, _]) (st1 := [_, _]) rfl ?_
        refine gm_put X (v := 2) rfl fX4_80 (by decide) rfl mSet0 ?_
        have hT : mLinT V y q = 2 := by unfold mLinT; (repeat' split) <;> omega
        refine gm_run X 1 (pc1 := 39) (ls1 := [_, _, _, _]) (st1 := [_]) rfl ?_
        refine gm_get X rfl fX4_80 (v := .int (iI 2)) rfl ?_
        refine gm_br X (pc1 := 47) (st1 := []) rfl (fun b9 => ?_) (fun b9 => ?_)
        · have c42 : (2 : Int) ≤ (0 : Int) := cLe b9 (by omega) (by omega)
          exact absurd c42 (by omega)
        · have c42 : (0 : Int) < (2 : Int) := cNe b9 (by omega) (by omega)
          refine gm_run X 1 (pc1 := 46) (ls1 := [_, _, _, _]) (st1 := [_]) rfl ?_
          exact gm_ret X hQ rfl rfl (by unfold mLin; rw [hT]; (repeat (first | rw [if_pos (by omega)] | rw [if_neg (by omega)])); all_goals (try rfl)) (by unfold mLin; rw [hT]; (repeat (first | rw [if_pos (by omega)] | rw [if_neg (by omega)])); all_goals (try rfl))
    · have c14 : ¬ (0 ≤ q ∧ q ≤ 3) := bI_f b9
      refine gm_run X 2 (pc1 := 35) (ls1 := [_, _, _, _]) (st1 := [_, _]) rfl ?_
      refine gm_put X (v := 1) rfl fX4_80 (by decide) rfl mSet0 ?_
      have hT : mLinT V y q = 1 := by unfold mLinT; (repeat' split) <;> omega
      refine gm_run X 1 (pc1 := 39) (ls1 := [_, _, _, _]) (st1 := [_]) rfl ?_
      refine gm_get X rfl fX4_80 (v := .int (iI 1)) rfl ?_
      refine gm_br X (pc1 := 47) (st1 := []) rfl (fun b9 => ?_) (fun b9 => ?_)
      · have c42 : (1 : Int) ≤ (0 : Int) := cLe b9 (by omega) (by omega)
        exact absurd c42 (by omega)
      · have c42 : (0 : Int) < (1 : Int) := cNe b9 (by omega) (by omega)
        refine gm_run X 1 (pc1 := 46) (ls1 := [_, _, _, _]) (st1 := [_]) rfl ?_
        exact gm_ret X hQ rfl rfl (by unfold mLin; rw [hT]; (repeat (first | rw [if_pos (by omega)] | rw [if_neg (by omega)])); all_goals (try rfl)) (by unfold mLin; rw [hT]; (repeat (first | rw [if_pos (by omega)] | rw [if_neg (by omega)])); all_goals (try rfl))
set_option maxHeartbeats 1000000 in
theorem mc_lapses (l : Launch) (EV : gEV) (am : Nat) (ad : Nat → Nat) {V : gV} {b : Int} (hb : inR b) (hI : mI V) : MC l yX4_lapses cX4_lapses 2 (some .int) 4 EV am ad [.int (iI b)] V (some (.int (iI (mLap V b).1))) ((mLap V b).2) := by
  intro M0 hM0
  refine g_body tbX4_lapses tkX4_lapses (by decide) (by intro v hv; simp only [List.mem_cons, List.not_mem_nil, or_false] at hv; rcases hv with rfl | rfl <;> rfl) (Nat.le_of_ble_eq_true rfl) (fun z Q X hl hR hQ hE => ?_)
  subst hl
  refine (?_ : gMd z _ EV Q M0 am ad V 0 [some (.ref am), some (.int (iI b))] []) M0 hM0 gFr.rf
  have hs := mIs hI
  refine gm_run X 3 (pc1 := 3) (ls1 := [_, _]) (st1 := [_, _, _]) rfl ?_
  refine gm_callV X rfl mX4_158 (mc_isBooking z.2.1 EV am ad (w := b) (by omega) hI) rfl rfl (Nat.le_of_ble_eq_true rfl) (gFit.of hR (by decide) (by decide) (by decide)) ?_
  refine gm_eq (st' := [.int (iI (bI (isBk V b))), .ref am]) rfl rfl ?_
  refine gm_br X (pc1 := 13) (st1 := [_]) rfl (fun b9 => ?_) (fun b9 => ?_)
  · have c6 : isBk V b := bI_t b9
    refine gm_run X 1 (pc1 := 14) (ls1 := [_, _]) (st1 := [_, _]) rfl ?_
    refine gm_get X rfl fX4_47 (v := .ref (ad 18)) rfl ?_
    refine gm_run X 1 (pc1 := 18) (ls1 := [_, _]) (st1 := [_, _, _]) rfl ?_
    refine gm_ald X 18 (x := b) (v := (V 18 b.toNat)) rfl rfl (by decide) (by show (0:Int) ≤ b ∧ b < 40; omega) (rfl) ?_
    have b18 := mI18 hI (j := b) (by omega) (by omega)
    refine gm_run X 1 (pc1 := 20) (ls1 := [_, _]) (st1 := [_, _, _]) rfl ?_
    refine gm_br X (pc1 := 27) (st1 := [_]) rfl (fun b9 => ?_) (fun b9 => ?_)
    · have c20 : ¬ (V 18 b.toNat) = 1 := cNq b9 (by omega) (by omega)
      refine gm_run X 1 (pc1 := 28) (ls1 := [_, _]) (st1 := [_, _]) rfl ?_
      refine gm_put X (v := 2) rfl fX4_80 (by decide) rfl mSet0 ?_
      have hT : mLapT V b = 2 := by unfold mLapT; (repeat' split) <;> omega
      refine gm_run X 1 (pc1 := 32) (ls1 := [_, _]) (st1 := [_]) rfl ?_
      refine gm_get X rfl fX4_80 (v := .int (iI 2)) rfl ?_
      refine gm_br X (pc1 := 42) (st1 := []) rfl (fun b9 => ?_) (fun b9 => ?_)
      · have c35 : (2 : Int) ≤ (0 : Int) := cLe b9 (by omega) (by omega)
        exact absurd c35 (by omega)
      · have c35 : (0 : Int) < (2 : Int) := cNe b9 (by omega) (by omega)
        refine gm_run X 2 (pc1 := 53) (ls1 := [_, _]) (st1 := [_]) rfl ?_
        exact gm_ret X hQ rfl rfl (by unfold mLap; rw [hT]; (repeat (first | rw [if_pos (by omega)] | rw [if_neg (by omega)])); all_goals (try rfl)) (by unfold mLap; rw [hT]; (repeat (first | rw [if_pos (by omega)] | rw [if_neg (by omega)])); all_goals (try rfl))
    · have c20 : (V 18 b.toNat) = 1 := cEq b9 (by omega) (by omega)
      refine gm_run X 2 (pc1 := 28) (ls1 := [_, _]) (st1 := [_, _]) rfl ?_
      refine gm_put X (v := 0) rfl fX4_80 (by decide) rfl mSet0 ?_
      have hT : mLapT V b = 0 := by unfold mLapT; (repeat' split) <;> omega
      refine gm_run X 1 (pc1 := 32) (ls1 := [_, _]) (st1 := [_]) rfl ?_
      refine gm_get X rfl fX4_80 (v := .int (iI 0)) rfl ?_
      refine gm_br X (pc1 := 42) (st1 := []) rfl (fun b9 => ?_) (fun b9 => ?_)
      · have c35 : (0 : Int) ≤ (0 : Int) := cLe b9 (by omega) (by omega)
        refine gm_run X 1 (pc1 := 43) (ls1 := [_, _]) (st1 := [_]) rfl ?_
        refine gm_get X rfl fX4_59 (v := .ref (ad 22)) rfl ?_
        refine gm_run X 1 (pc1 := 47) (ls1 := [_, _]) (st1 := [_, _]) rfl ?_
        refine gm_ald X 22 (x := b) (v := (V 22 b.toNat)) rfl rfl (by decide) (by show (0:Int) ≤ b ∧ b < 40; omega) (rfl) ?_
        have b47 := mI22 hI (j := b) (by omega) (by omega)
        refine gm_run X 1 (pc1 := 49) (ls1 := [_, _]) (st1 := [_, _]) rfl ?_
        refine gm_get X rfl fX4_171 (v := .int (iI (V 1 0))) rfl ?_
        refine gm_run X 1 (pc1 := 53) (ls1 := [_, _]) (st1 := [_]) rfl ?_
        refine gm_eq (ls' := [some (.ref am), some (.int (iI b))]) (st' := [.int (iI ((V 22 b.toNat) - (V 1 0)))]) (by simp only [iI_add, iI_sub, iI_mul, iI_neg]) (by simp only [iI_add, iI_sub, iI_mul, iI_neg]) ?_
        exact gm_ret X hQ rfl rfl (by unfold mLap; rw [hT]; (repeat (first | rw [if_pos (by omega)] | rw [if_neg (by omega)])); all_goals (try rfl)) (by unfold mLap; rw [hT]; (repeat (first | rw [if_pos (by omega)] | rw [if_neg (by omega)])); all_goals (try rfl))
      · have c35 : (0 : Int) < (0 : Int) := cNe b9 (by omega) (by omega)
        exact absurd c35 (by omega)
  · have c6 : ¬ (isBk V b) := bI_f b9
    refine gm_run X 2 (pc1 := 28) (ls1 := [_, _]) (st1 := [_, _]) rfl ?_
    refine gm_put X (v := 1) rfl fX4_80 (by decide) rfl mSet0 ?_
    have hT : mLapT V b = 1 := by unfold mLapT; (repeat' split) <;> omega
    refine gm_run X 1 (pc1 := 32) (ls1 := [_, _]) (st1 := [_]) rfl ?_
    refine gm_get X rfl fX4_80 (v := .int (iI 1)) rfl ?_
    refine gm_br X (pc1 := 42) (st1 := []) rfl (fun b9 => ?_) (fun b9 => ?_)
    · have c35 : (1 : Int) ≤ (0 : Int) := cLe b9 (by omega) (by omega)
      exact absurd c35 (by omega)
    · have c35 : (0 : Int) < (1 : Int) := cNe b9 (by omega) (by omega)
      refine gm_run X 2 (pc1 := 53) (ls1 := [_, _]) (st1 := [_]) rfl ?_
      exact gm_ret X hQ rfl rfl (by unfold mLap; rw [hT]; (repeat (first | rw [if_pos (by omega)] | rw [if_neg (by omega)])); all_goals (try rfl)) (by unfold mLap; rw [hT]; (repeat (first | rw [if_pos (by omega)] | rw [if_neg (by omega)])); all_goals (try rfl))
set_option maxHeartbeats 1000000 in
theorem mc_wagonOf (l : Launch) (EV : gEV) (am : Nat) (ad : Nat → Nat) {V : gV} {b : Int} (hb : inR b) {p : Int} (hp : inR p) (hI : mI V) : MC l yX4_wagonOf cX4_wagonOf 3 (some .int) 4 EV am ad [.int (iI b), .int (iI p)] V (some (.int (iI (mWof V b p).1))) ((mWof V b p).2) := by
  intro M0 hM0
  refine g_body tbX4_wagonOf tkX4_wagonOf (by decide) (by intro v hv; simp only [List.mem_cons, List.not_mem_nil, or_false] at hv; rcases hv with rfl | rfl | rfl <;> rfl) (Nat.le_of_ble_eq_true rfl) (fun z Q X hl hR hQ hE => ?_)
  subst hl
  refine (?_ : gMd z _ EV Q M0 am ad V 0 [some (.ref am), some (.int (iI b)), some (.int (iI p))] []) M0 hM0 gFr.rf
  have hs := mIs hI
  refine gm_run X 3 (pc1 := 3) (ls1 := [_, _, _]) (st1 := [_, _, _]) rfl ?_
  refine gm_callV X rfl mX4_158 (mc_isBooking z.2.1 EV am ad (w := b) (by omega) hI) rfl rfl (Nat.le_of_ble_eq_true rfl) (gFit.of hR (by decide) (by decide) (by decide)) ?_
  refine gm_eq (st' := [.int (iI (bI (isBk V b))), .ref am]) rfl rfl ?_
  refine gm_br X (pc1 := 29) (st1 := [_]) rfl (fun b9 => ?_) (fun b9 => ?_)
  · have c6 : ¬ (isBk V b) := bI_f b9
    refine gm_run X 1 (pc1 := 30) (ls1 := [_, _, _]) (st1 := [_, _]) rfl ?_
    refine gm_put X (v := 1) rfl fX4_80 (by decide) rfl mSet0 ?_
    have hT : mWofT V b p = 1 := by unfold mWofT; (repeat' split) <;> omega
    refine gm_run X 1 (pc1 := 34) (ls1 := [_, _, _]) (st1 := [_]) rfl ?_
    refine gm_get X rfl fX4_80 (v := .int (iI 1)) rfl ?_
    refine gm_br X (pc1 := 44) (st1 := []) rfl (fun b9 => ?_) (fun b9 => ?_)
    · have c37 : (1 : Int) ≤ (0 : Int) := cLe b9 (by omega) (by omega)
      exact absurd c37 (by omega)
    · have c37 : (0 : Int) < (1 : Int) := cNe b9 (by omega) (by omega)
      refine gm_run X 2 (pc1 := 55) (ls1 := [_, _, _]) (st1 := [_]) rfl ?_
      exact gm_ret X hQ rfl rfl (by unfold mWof; rw [hT]; (repeat (first | rw [if_pos (by omega)] | rw [if_neg (by omega)])); all_goals (try rfl)) (by unfold mWof; rw [hT]; (repeat (first | rw [if_pos (by omega)] | rw [if_neg (by omega)])); all_goals (try rfl))
  · have c6 : isBk V b := bI_t b9
    refine gm_run X 3 (pc1 := 12) (ls1 := [_, _, _]) (st1 := [_, _, _, _]) rfl ?_
    refine gm_get X rfl fX4_62 (v := .ref (ad 23)) rfl ?_
    refine gm_run X 1 (pc1 := 16) (ls1 := [_, _, _]) (st1 := [_, _, _, _, _]) rfl ?_
    refine gm_ald X 23 (x := b) (v := (V 23 b.toNat)) rfl rfl (by decide) (by show (0:Int) ≤ b ∧ b < 40; omega) (rfl) ?_
    have b16 := mI23 hI (j := b) (by omega) (by omega)
    refine gm_run X 2 (pc1 := 19) (ls1 := [_, _, _]) (st1 := [_, _, _, _]) rfl ?_
    refine gm_eq (ls' := [some (.ref am), some (.int (iI b)), some (.int (iI p))]) (st' := [.int (iI ((V 23 b.toNat) - 1)), .int (iI 0), .int (iI p), .ref am]) (by simp only [iI_add, iI_sub, iI_mul, iI_neg]) (by simp only [iI_add, iI_sub, iI_mul, iI_neg]) ?_
    refine gm_callS X rfl mX4_84 (fun M => mc_in z.2.1 EV M (v := p) (lo := 0) (hi := ((V 23 b.toNat) - 1)) (by omega) (by omega) (by omega)) rfl rfl (Nat.le_of_ble_eq_true rfl) (gFit.of hR (by decide) (by decide) (by decide)) ?_
    refine gm_eq (st' := [.int (iI (bI (0 ≤ p ∧ p ≤ ((V 23 b.toNat) - 1)))), .ref am]) rfl rfl ?_
    refine gm_br X (pc1 := 29) (st1 := [_]) rfl (fun b9 => ?_) (fun b9 => ?_)
    · have c22 : ¬ (0 ≤ p ∧ p ≤ ((V 23 b.toNat) - 1)) := bI_f b9
      refine gm_run X 1 (pc1 := 30) (ls1 := [_, _, _]) (st1 := [_, _]) rfl ?_
      refine gm_put X (v := 1) rfl fX4_80 (by decide) rfl mSet0 ?_
      have hT : mWofT V b p = 1 := by unfold mWofT; (repeat' split) <;> omega
      refine gm_run X 1 (pc1 := 34) (ls1 := [_, _, _]) (st1 := [_]) rfl ?_
      refine gm_get X rfl fX4_80 (v := .int (iI 1)) rfl ?_
      refine gm_br X (pc1 := 44) (st1 := []) rfl (fun b9 => ?_) (fun b9 => ?_)
      · have c37 : (1 : Int) ≤ (0 : Int) := cLe b9 (by omega) (by omega)
        exact absurd c37 (by omega)
      · have c37 : (0 : Int) < (1 : Int) := cNe b9 (by omega) (by omega)
        refine gm_run X 2 (pc1 := 55) (ls1 := [_, _, _]) (st1 := [_]) rfl ?_
        exact gm_ret X hQ rfl rfl (by unfold mWof; rw [hT]; (repeat (first | rw [if_pos (by omega)] | rw [if_neg (by omega)])); all_goals (try rfl)) (by unfold mWof; rw [hT]; (repeat (first | rw [if_pos (by omega)] | rw [if_neg (by omega)])); all_goals (try rfl))
    · have c22 : 0 ≤ p ∧ p ≤ ((V 23 b.toNat) - 1) := bI_t b9
      refine gm_run X 2 (pc1 := 30) (ls1 := [_, _, _]) (st1 := [_, _]) rfl ?_
      refine gm_put X (v := 0) rfl fX4_80 (by decide) rfl mSet0 ?_
      have hT : mWofT V b p = 0 := by unfold mWofT; (repeat' split) <;> omega
      refine gm_run X 1 (pc1 := 34) (ls1 := [_, _, _]) (st1 := [_]) rfl ?_
      refine gm_get X rfl fX4_80 (v := .int (iI 0)) rfl ?_
      refine gm_br X (pc1 := 44) (st1 := []) rfl (fun b9 => ?_) (fun b9 => ?_)
      · have c37 : (0 : Int) ≤ (0 : Int) := cLe b9 (by omega) (by omega)
        refine gm_run X 1 (pc1 := 45) (ls1 := [_, _, _]) (st1 := [_]) rfl ?_
        refine gm_get X rfl fX4_65 (v := .ref (ad 24)) rfl ?_
        refine gm_run X 5 (pc1 := 54) (ls1 := [_, _, _]) (st1 := [_, _]) rfl ?_
        refine gm_eq (ls' := [some (.ref am), some (.int (iI b)), some (.int (iI p))]) (st' := [.int (iI ((30 * b) + p)), .ref (ad 24)]) (by simp only [iI_add, iI_sub, iI_mul, iI_neg]) (by simp only [iI_add, iI_sub, iI_mul, iI_neg]) ?_
        refine gm_ald X 24 (x := ((30 * b) + p)) (v := (V 24 ((30 * b) + p).toNat)) rfl rfl (by decide) (by show (0:Int) ≤ ((30 * b) + p) ∧ ((30 * b) + p) < 1200; omega) (rfl) ?_
        have b54 := mI24 hI (a := b) (k := p) (by omega) (by omega) (by omega) (by omega)
        exact gm_ret X hQ rfl rfl (by unfold mWof; rw [hT]; (repeat (first | rw [if_pos (by omega)] | rw [if_neg (by omega)])); all_goals (try rfl)) (by unfold mWof; rw [hT]; (repeat (first | rw [if_pos (by omega)] | rw [if_neg (by omega)])); all_goals (try rfl))
      · have c37 : (0 : Int) < (0 : Int) := cNe b9 (by omega) (by omega)
        exact absurd c37 (by omega)
set_option maxHeartbeats 1000000 in
theorem mc_pass (l : Launch) (EV : gEV) (am : Nat) (ad : Nat → Nat) {V : gV} {t : Int} (ht : inR t) (hI : mI V) : MC l yX4_pass cX4_pass 4 (some .int) 4 EV am ad [.int (iI t)] V (some (.int (iI (mPass V t).1))) ((mPass V t).2) := by
  intro M0 hM0
  refine g_body tbX4_pass tkX4_pass (by decide) (by intro v hv; simp only [List.mem_cons, List.not_mem_nil, or_false] at hv; rcases hv with rfl | rfl <;> rfl) (Nat.le_of_ble_eq_true rfl) (fun z Q X hl hR hQ hE => ?_)
  subst hl
  have hs := mIs hI
  have loop : mPassT V t = 0 → V 1 0 + t ≤ 10000 → 1 ≤ t → ∀ (j k : Nat), (k : Int) + j = V 17 0 → gMd z (cX4_pass, yX4_pass.cls, 4, (some .int), tbX4_pass, yX4_pass.name) EV Q M0 am ad (mPa (vS (vS V 0 0 0) 1 0 (V 1 0 + t)) k).2 58 [some (.ref am), some (.int (iI t)), some (.int (iI ((mPa (vS (vS V 0 0 0) 1 0 (V 1 0 + t)) k).1))), some (.int (iI (k : Int)))] [] := by
    intro hT ht1 ht2 j
    induction j with
    | zero =>
      intro k hk
      have hr := mPa_r (vS (vS V 0 0 0) 1 0 (V 1 0 + t)) k
      have e1 : (mPa (vS (vS V 0 0 0) 1 0 (V 1 0 + t)) k).2 1 0 = V 1 0 + t := mPa_k (by decide) k
      have e17 : (mPa (vS (vS V 0 0 0) 1 0 (V 1 0 + t)) k).2 17 0 = V 17 0 := mPa_k (by decide) k
      refine gm_run X 2 (pc1 := 60) (ls1 := [_, _, _, _]) (st1 := [_, _]) rfl ?_
      refine gm_get X rfl fX4_122 (v := .int (iI (((mPa (vS (vS V 0 0 0) 1 0 (V 1 0 + t)) k).2) 17 0))) rfl ?_
      refine gm_br X (pc1 := 105) (st1 := []) rfl (fun b9 => ?_) (fun b9 => ?_)
      · have c63 : (((mPa (vS (vS V 0 0 0) 1 0 (V 1 0 + t)) k).2) 17 0) ≤ (k : Int) := cLe b9 (by omega) (by omega)
        refine gm_run X 1 (pc1 := 106) (ls1 := [_, _, _, _]) (st1 := [_]) rfl ?_
        have e9 : k = (V 17 0).toNat := by omega
        subst e9
        exact gm_ret X hQ rfl rfl (by unfold mPass; rw [hT]; (repeat (first | rw [if_pos (by omega)] | rw [if_neg (by omega)])); all_goals (try rfl)) (by unfold mPass; rw [hT]; (repeat (first | rw [if_pos (by omega)] | rw [if_neg (by omega)])); all_goals (try rfl))
      · have c63 : (k : Int) < (((mPa (vS (vS V 0 0 0) 1 0 (V 1 0 + t)) k).2) 17 0) := cNe b9 (by omega) (by omega)
        exact absurd c63 (by omega)
    | succ j ih =>
      intro k hk
      have hr := mPa_r (vS (vS V 0 0 0) 1 0 (V 1 0 + t)) k
      have e1 : (mPa (vS (vS V 0 0 0) 1 0 (V 1 0 + t)) k).2 1 0 = V 1 0 + t := mPa_k (by decide) k
      have e17 : (mPa (vS (vS V 0 0 0) 1 0 (V 1 0 + t)) k).2 17 0 = V 17 0 := mPa_k (by decide) k
      have b18 := mI18 hI (j := (k : Int)) (by omega) (by omega)
      have b22 := mI22 hI (j := (k : Int)) (by omega) (by omega)
      have e18 : (mPa (vS (vS V 0 0 0) 1 0 (V 1 0 + t)) k).2 18 (k : Int).toNat = V 18 (k : Int).toNat := mPa_18 k (by omega)
      have e22 : (mPa (vS (vS V 0 0 0) 1 0 (V 1 0 + t)) k).2 22 (k : Int).toNat = V 22 (k : Int).toNat := mPa_k (by decide) k
      refine gm_run X 2 (pc1 := 60) (ls1 := [_, _, _, _]) (st1 := [_, _]) rfl ?_
      refine gm_get X rfl fX4_122 (v := .int (iI (((mPa (vS (vS V 0 0 0) 1 0 (V 1 0 + t)) k).2) 17 0))) rfl ?_
      refine gm_br X (pc1 := 105) (st1 := []) rfl (fun b9 => ?_) (fun b9 => ?_)
      · have c63 : (((mPa (vS (vS V 0 0 0) 1 0 (V 1 0 + t)) k).2) 17 0) ≤ (k : Int) := cLe b9 (by omega) (by omega)
        exact absurd c63 (by omega)
      · have c63 : (k : Int) < (((mPa (vS (vS V 0 0 0) 1 0 (V 1 0 + t)) k).2) 17 0) := cNe b9 (by omega) (by omega)
        refine gm_run X 1 (pc1 := 67) (ls1 := [_, _, _, _]) (st1 := [_]) rfl ?_
        refine gm_get X rfl fX4_47 (v := .ref (ad 18)) rfl ?_
        refine gm_run X 1 (pc1 := 71) (ls1 := [_, _, _, _]) (st1 := [_, _]) rfl ?_
        refine gm_ald X 18 (x := (k : Int)) (v := (((mPa (vS (vS V 0 0 0) 1 0 (V 1 0 + t)) k).2) 18 (k : Int).toNat)) rfl rfl (by decide) (by show (0:Int) ≤ (k : Int) ∧ (k : Int) < 40; omega) (rfl) ?_
        refine gm_run X 1 (pc1 := 73) (ls1 := [_, _, _, _]) (st1 := [_, _]) rfl ?_
        refine gm_br X (pc1 := 99) (st1 := []) rfl (fun b9 => ?_) (fun b9 => ?_)
        · have c73 : ¬ (((mPa (vS (vS V 0 0 0) 1 0 (V 1 0 + t)) k).2) 18 (k : Int).toNat) = 1 := cNq b9 (by omega) (by omega)
          refine gm_run X 2 (pc1 := 58) (ls1 := [_, _, _, _]) (st1 := []) rfl ?_
          refine gm_eq (ls' := [some (.ref am), some (.int (iI t)), some (.int (iI ((mPa (vS (vS V 0 0 0) 1 0 (V 1 0 + t)) k).1))), some (.int (iI ((k : Int) + 1)))]) (st' := []) (by simp only [iI_add, iI_sub, iI_mul, iI_neg]) (by simp only [iI_add, iI_sub, iI_mul, iI_neg]) ?_
          have e : mPa (vS (vS V 0 0 0) 1 0 (V 1 0 + t)) (k + 1) = ((mPa (vS (vS V 0 0 0) 1 0 (V 1 0 + t)) k).1, (mPa (vS (vS V 0 0 0) 1 0 (V 1 0 + t)) k).2) := by rw [mPa]; first | rw [if_pos (by omega)] | rw [if_neg (by omega)]
          have h9 := ih (k + 1) (by omega)
          rw [e] at h9
          exact h9
        · have c73 : (((mPa (vS (vS V 0 0 0) 1 0 (V 1 0 + t)) k).2) 18 (k : Int).toNat) = 1 := cEq b9 (by omega) (by omega)
          refine gm_run X 1 (pc1 := 77) (ls1 := [_, _, _, _]) (st1 := [_]) rfl ?_
          refine gm_get X rfl fX4_59 (v := .ref (ad 22)) rfl ?_
          refine gm_run X 1 (pc1 := 81) (ls1 := [_, _, _, _]) (st1 := [_, _]) rfl ?_
          refine gm_ald X 22 (x := (k : Int)) (v := (((mPa (vS (vS V 0 0 0) 1 0 (V 1 0 + t)) k).2) 22 (k : Int).toNat)) rfl rfl (by decide) (by show (0:Int) ≤ (k : Int) ∧ (k : Int) < 40; omega) (rfl) ?_
          refine gm_run X 1 (pc1 := 83) (ls1 := [_, _, _, _]) (st1 := [_, _]) rfl ?_
          refine gm_get X rfl fX4_171 (v := .int (iI (((mPa (vS (vS V 0 0 0) 1 0 (V 1 0 + t)) k).2) 1 0))) rfl ?_
          refine gm_br X (pc1 := 99) (st1 := []) rfl (fun b9 => ?_) (fun b9 => ?_)
          · have c86 : (((mPa (vS (vS V 0 0 0) 1 0 (V 1 0 + t)) k).2) 1 0) < (((mPa (vS (vS V 0 0 0) 1 0 (V 1 0 + t)) k).2) 22 (k : Int).toNat) := cLt b9 (by omega) (by omega)
            refine gm_run X 2 (pc1 := 58) (ls1 := [_, _, _, _]) (st1 := []) rfl ?_
            refine gm_eq (ls' := [some (.ref am), some (.int (iI t)), some (.int (iI ((mPa (vS (vS V 0 0 0) 1 0 (V 1 0 + t)) k).1))), some (.int (iI ((k : Int) + 1)))]) (st' := []) (by simp only [iI_add, iI_sub, iI_mul, iI_neg]) (by simp only [iI_add, iI_sub, iI_mul, iI_neg]) ?_
            have e : mPa (vS (vS V 0 0 0) 1 0 (V 1 0 + t)) (k + 1) = ((mPa (vS (vS V 0 0 0) 1 0 (V 1 0 + t)) k).1, (mPa (vS (vS V 0 0 0) 1 0 (V 1 0 + t)) k).2) := by rw [mPa]; first | rw [if_pos (by omega)] | rw [if_neg (by omega)]
            have h9 := ih (k + 1) (by omega)
            rw [e] at h9
            exact h9
          · have c86 : (((mPa (vS (vS V 0 0 0) 1 0 (V 1 0 + t)) k).2) 22 (k : Int).toNat) ≤ (((mPa (vS (vS V 0 0 0) 1 0 (V 1 0 + t)) k).2) 1 0) := cNl b9 (by omega) (by omega)
            refine gm_run X 1 (pc1 := 90) (ls1 := [_, _, _, _]) (st1 := [_]) rfl ?_
            refine gm_get X rfl fX4_47 (v := .ref (ad 18)) rfl ?_
            refine gm_run X 2 (pc1 := 95) (ls1 := [_, _, _, _]) (st1 := [_, _, _]) rfl ?_
            refine gm_ast X 18 (x := (k : Int)) (v := 5) rfl rfl (by decide) (by show (0:Int) ≤ (k : Int) ∧ (k : Int) < 40; omega) ?_
            refine gm_run X 3 (pc1 := 58) (ls1 := [_, _, _, _]) (st1 := []) rfl ?_
            refine gm_eq (ls' := [some (.ref am), some (.int (iI t)), some (.int (iI (((mPa (vS (vS V 0 0 0) 1 0 (V 1 0 + t)) k).1) + 1))), some (.int (iI ((k : Int) + 1)))]) (st' := []) (by simp only [iI_add, iI_sub, iI_mul, iI_neg]) (by simp only [iI_add, iI_sub, iI_mul, iI_neg]) ?_
            have e : mPa (vS (vS V 0 0 0) 1 0 (V 1 0 + t)) (k + 1) = ((((mPa (vS (vS V 0 0 0) 1 0 (V 1 0 + t)) k).1) + 1), (vS ((mPa (vS (vS V 0 0 0) 1 0 (V 1 0 + t)) k).2) 18 (k : Int).toNat 5)) := by rw [mPa]; first | rw [if_pos (by omega)] | rw [if_neg (by omega)]
            have h9 := ih (k + 1) (by omega)
            rw [e] at h9
            exact h9
  refine (?_ : gMd z _ EV Q M0 am ad V 0 [some (.ref am), some (.int (iI t)), none, none] []) M0 hM0 gFr.rf
  refine gm_run X 4 (pc1 := 5) (ls1 := [_, _, _, _]) (st1 := [_, _, _, _]) rfl ?_
  refine gm_callS X rfl mX4_84 (fun M => mc_in z.2.1 EV M (v := t) (lo := 1) (hi := 100) (by omega) (by omega) (by omega)) rfl rfl (Nat.le_of_ble_eq_true rfl) (gFit.of hR (by decide) (by decide) (by decide)) ?_
  refine gm_eq (st' := [.int (iI (bI (1 ≤ t ∧ t ≤ 100))), .ref am]) rfl rfl ?_
  refine gm_br X (pc1 := 15) (st1 := [_]) rfl (fun b9 => ?_) (fun b9 => ?_)
  · have c8 : 1 ≤ t ∧ t ≤ 100 := bI_t b9
    refine gm_run X 1 (pc1 := 16) (ls1 := [_, _, _, _]) (st1 := [_, _]) rfl ?_
    refine gm_get X rfl fX4_171 (v := .int (iI (V 1 0))) rfl ?_
    refine gm_run X 3 (pc1 := 24) (ls1 := [_, _, _, _]) (st1 := [_, _, _]) rfl ?_
    refine gm_eq (ls' := [some (.ref am), some (.int (iI t)), none, none]) (st' := [.int (iI 10000), .int (iI ((V 1 0) + t)), .ref am]) (by simp only [iI_add, iI_sub, iI_mul, iI_neg]) (by simp only [iI_add, iI_sub, iI_mul, iI_neg]) ?_
    refine gm_br X (pc1 := 31) (st1 := [_]) rfl (fun b9 => ?_) (fun b9 => ?_)
    · have c24 : ((V 1 0) + t) ≤ 10000 := cLe b9 (by omega) (by omega)
      refine gm_run X 1 (pc1 := 32) (ls1 := [_, _, _, _]) (st1 := [_, _]) rfl ?_
      refine gm_put X (v := 0) rfl fX4_80 (by decide) rfl mSet0 ?_
      have hT : mPassT V t = 0 := by unfold mPassT; (repeat' split) <;> omega
      refine gm_run X 1 (pc1 := 36) (ls1 := [_, _, _, _]) (st1 := [_]) rfl ?_
      refine gm_get X rfl fX4_80 (v := .int (iI 0)) rfl ?_
      refine gm_br X (pc1 := 44) (st1 := []) rfl (fun b9 => ?_) (fun b9 => ?_)
      · have c39 : (0 : Int) ≤ (0 : Int) := cLe b9 (by omega) (by omega)
        refine gm_run X 2 (pc1 := 46) (ls1 := [_, _, _, _]) (st1 := [_, _]) rfl ?_
        refine gm_get X rfl fX4_171 (v := .int (iI (V 1 0))) rfl ?_
        refine gm_run X 2 (pc1 := 51) (ls1 := [_, _, _, _]) (st1 := [_, _]) rfl ?_
        refine gm_eq (ls' := [some (.ref am), some (.int (iI t)), none, none]) (st' := [.int (iI ((V 1 0) + t)), .ref am]) (by simp only [iI_add, iI_sub, iI_mul, iI_neg]) (by simp only [iI_add, iI_sub, iI_mul, iI_neg]) ?_
        refine gm_put X (v := ((V 1 0) + t)) rfl fX4_171 (by decide) rfl mSet1 ?_
        refine gm_run X 4 (pc1 := 58) (ls1 := [_, _, _, _]) (st1 := []) rfl ?_
        exact loop hT (by omega) (by omega) (V 17 0).toNat 0 (by omega)
      · have c39 : (0 : Int) < (0 : Int) := cNe b9 (by omega) (by omega)
        exact absurd c39 (by omega)
    · have c24 : 10000 < ((V 1 0) + t) := cNe b9 (by omega) (by omega)
      refine gm_run X 2 (pc1 := 32) (ls1 := [_, _, _, _]) (st1 := [_, _]) rfl ?_
      refine gm_put X (v := 2) rfl fX4_80 (by decide) rfl mSet0 ?_
      have hT : mPassT V t = 2 := by unfold mPassT; (repeat' split) <;> omega
      refine gm_run X 1 (pc1 := 36) (ls1 := [_, _, _, _]) (st1 := [_]) rfl ?_
      refine gm_get X rfl fX4_80 (v := .int (iI 2)) rfl ?_
      refine gm_br X (pc1 := 44) (st1 := []) rfl (fun b9 => ?_) (fun b9 => ?_)
      · have c39 : (2 : Int) ≤ (0 : Int) := cLe b9 (by omega) (by omega)
        exact absurd c39 (by omega)
      · have c39 : (0 : Int) < (2 : Int) := cNe b9 (by omega) (by omega)
        refine gm_run X 1 (pc1 := 43) (ls1 := [_, _, _, _]) (st1 := [_]) rfl ?_
        exact gm_ret X hQ rfl rfl (by unfold mPass; rw [hT]; (repeat (first | rw [if_pos (by omega)] | rw [if_neg (by omega)])); all_goals (try rfl)) (by unfold mPass; rw [hT]; (repeat (first | rw [if_pos (by omega)] | rw [if_neg (by omega)])); all_goals (try rfl))
  · have c8 : ¬ (1 ≤ t ∧ t ≤ 100) := bI_f b9
    refine gm_run X 2 (pc1 := 32) (ls1 := [_, _, _, _]) (st1 := [_, _]) rfl ?_
    refine gm_put X (v := 1) rfl fX4_80 (by decide) rfl mSet0 ?_
    have hT : mPassT V t = 1 := by unfold mPassT; (repeat' split) <;> omega
    refine gm_run X 1 (pc1 := 36) (ls1 := [_, _, _, _]) (st1 := [_]) rfl ?_
    refine gm_get X rfl fX4_80 (v := .int (iI 1)) rfl ?_
    refine gm_br X (pc1 := 44) (st1 := []) rfl (fun b9 => ?_) (fun b9 => ?_)
    · have c39 : (1 : Int) ≤ (0 : Int) := cLe b9 (by omega) (by omega)
      exact absurd c39 (by omega)
    · have c39 : (0 : Int) < (1 : Int) := cNe b9 (by omega) (by omega)
      refine gm_run X 1 (pc1 := 43) (ls1 := [_, _, _, _]) (st1 := [_]) rfl ?_
      exact gm_ret X hQ rfl rfl (by unfold mPass; rw [hT]; (repeat (first | rw [if_pos (by omega)] | rw [if_neg (by omega)])); all_goals (try rfl)) (by unfold mPass; rw [hT]; (repeat (first | rw [if_pos (by omega)] | rw [if_neg (by omega)])); all_goals (try rfl))
