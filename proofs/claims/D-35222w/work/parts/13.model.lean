/-! THE REFERENCE's methods, walked -/
abbrev isYd (y : Int) : Prop := 0 ≤ y ∧ y ≤ 2
abbrev isTrk (y t : Int) : Prop := (0 ≤ y ∧ y ≤ 2) ∧ 0 ≤ t ∧ t ≤ 4
abbrev isGr (g : Int) : Prop := 0 ≤ g ∧ g ≤ 3
abbrev isTk (a b k : Int) : Prop := (0 ≤ a ∧ a ≤ 2) ∧ (0 ≤ b ∧ b ≤ 2) ∧ ¬ a = b ∧ 0 ≤ k ∧ k ≤ 1
abbrev isWg (V : gV) (w : Int) : Prop := 0 ≤ w ∧ w ≤ V 2 0 - 1
abbrev isCl (V : gV) (w : Int) : Prop := 0 ≤ w ∧ w ≤ V 11 0 - 1
abbrev isBk (V : gV) (w : Int) : Prop := 0 ≤ w ∧ w ≤ V 17 0 - 1
abbrev isPr (V : gV) (w : Int) : Prop := ¬ V 5 w.toNat = -1 ∧ V 18 (V 5 w.toNat).toNat < 4
theorem bI_t0 {p : Prop} [Decidable p] (h : ¬ iI (bI p) = 0) : p := bI_t h
theorem bI_f0 {p : Prop} [Decidable p] (h : iI (bI p) = 0) : ¬ p := bI_f h
theorem bI_n (p : Prop) [Decidable p] : narrow .boolean (.int (iI (bI p))) = .int (iI (bI p)) := by unfold bI; split <;> decide
theorem vS_vS {V : gV} {k i : Nat} {x y : Int} : vS (vS V k i x) k i y = vS V k i y := by
  funext a b
  unfold vS
  split <;> rfl
/-- what keeps the reference's indices within, and its numbers small -/
def mI (V : gV) : Prop := ((0 ≤ V 1 0 ∧ V 1 0 ≤ 10000) ∧ (0 ≤ V 2 0 ∧ V 2 0 ≤ 30) ∧ (0 ≤ V 11 0 ∧ V 11 0 ≤ 60) ∧ (0 ≤ V 17 0 ∧ V 17 0 ≤ 40) ∧ 0 ≤ V 25 0 ∧ V 25 0 ≤ 40) ∧
  (∀ j : Int, 0 ≤ j → j < V 2 0 → (-1 ≤ V 4 j.toNat ∧ V 4 j.toNat ≤ 3) ∧ (-1 ≤ V 5 j.toNat ∧ V 5 j.toNat < V 17 0) ∧ -1 ≤ V 3 j.toNat ∧ V 3 j.toNat ≤ 24) ∧
  (∀ j : Int, 0 ≤ j → j < 15 → 0 ≤ V 6 j.toNat ∧ V 6 j.toNat ≤ 6) ∧
  (∀ a k : Int, 0 ≤ a → a < 15 → 0 ≤ k → k < V 6 a.toNat → 0 ≤ V 7 (6 * a + k).toNat ∧ V 7 (6 * a + k).toNat < V 2 0) ∧
  (∀ j : Int, 0 ≤ j → j < 4 → 0 ≤ V 8 j.toNat ∧ V 8 j.toNat ≤ 15) ∧
  (∀ j : Int, 0 ≤ j → j < 6 → -2 ≤ V 9 j.toNat ∧ V 9 j.toNat < V 11 0) ∧
  (∀ j : Int, 0 ≤ j → j < 3 → 0 ≤ V 10 j.toNat ∧ V 10 j.toNat ≤ 3) ∧
  (∀ j : Int, 0 ≤ j → j < V 11 0 → (0 ≤ V 13 j.toNat ∧ V 13 j.toNat ≤ 5) ∧ (0 ≤ V 14 j.toNat ∧ V 14 j.toNat ≤ 2) ∧ (V 15 j.toNat = 0 ∨ V 15 j.toNat = 1) ∧ -1 ≤ V 16 j.toNat ∧ V 16 j.toNat < V 17 0) ∧
  (∀ j : Int, 0 ≤ j → j < V 17 0 → (0 ≤ V 18 j.toNat ∧ V 18 j.toNat ≤ 5) ∧ (0 ≤ V 19 j.toNat ∧ V 19 j.toNat ≤ 3) ∧ (0 ≤ V 20 j.toNat ∧ V 20 j.toNat ≤ 5) ∧ (0 ≤ V 21 j.toNat ∧ V 21 j.toNat ≤ 2) ∧ (0 ≤ V 22 j.toNat ∧ V 22 j.toNat ≤ 10010) ∧ 0 ≤ V 23 j.toNat ∧ V 23 j.toNat ≤ 30) ∧
  (∀ a k : Int, 0 ≤ a → a < V 17 0 → 0 ≤ k → k < V 23 a.toNat → 0 ≤ V 24 (30 * a + k).toNat ∧ V 24 (30 * a + k).toNat < V 2 0) ∧
  (∀ j : Int, 0 ≤ j → j < V 25 0 → (0 ≤ V 26 j.toNat ∧ V 26 j.toNat ≤ 2) ∧ (V 27 j.toNat = 0 ∨ V 27 j.toNat = 1) ∧ 0 ≤ V 28 j.toNat ∧ V 28 j.toNat ≤ 6) ∧
  (∀ a k : Int, 0 ≤ a → a < V 25 0 → 0 ≤ k → k < V 28 a.toNat → 0 ≤ V 29 (6 * a + k).toNat ∧ V 29 (6 * a + k).toNat < V 2 0)
section
variable {V : gV}
theorem mIs (h : mI V) : (0 ≤ V 1 0 ∧ V 1 0 ≤ 10000) ∧ (0 ≤ V 2 0 ∧ V 2 0 ≤ 30) ∧ (0 ≤ V 11 0 ∧ V 11 0 ≤ 60) ∧ (0 ≤ V 17 0 ∧ V 17 0 ≤ 40) ∧ 0 ≤ V 25 0 ∧ V 25 0 ≤ 40 := h.1
theorem mI4 (h : mI V) {j : Int} (h0 : 0 ≤ j) (h1 : j < V 2 0) : -1 ≤ V 4 j.toNat ∧ V 4 j.toNat ≤ 3 := (h.2.1 j h0 h1).1
theorem mI5 (h : mI V) {j : Int} (h0 : 0 ≤ j) (h1 : j < V 2 0) : -1 ≤ V 5 j.toNat ∧ V 5 j.toNat < V 17 0 := (h.2.1 j h0 h1).2.1
theorem mI3 (h : mI V) {j : Int} (h0 : 0 ≤ j) (h1 : j < V 2 0) : -1 ≤ V 3 j.toNat ∧ V 3 j.toNat ≤ 24 := (h.2.1 j h0 h1).2.2
theorem mI6 (h : mI V) {j : Int} (h0 : 0 ≤ j) (h1 : j < 15) : 0 ≤ V 6 j.toNat ∧ V 6 j.toNat ≤ 6 := h.2.2.1 j h0 h1
theorem mI7 (h : mI V) {a k : Int} (h0 : 0 ≤ a) (h1 : a < 15) (h2 : 0 ≤ k) (h3 : k < V 6 a.toNat) : 0 ≤ V 7 (6 * a + k).toNat ∧ V 7 (6 * a + k).toNat < V 2 0 := h.2.2.2.1 a k h0 h1 h2 h3
theorem mI8 (h : mI V) {j : Int} (h0 : 0 ≤ j) (h1 : j < 4) : 0 ≤ V 8 j.toNat ∧ V 8 j.toNat ≤ 15 := h.2.2.2.2.1 j h0 h1
theorem mI9 (h : mI V) {j : Int} (h0 : 0 ≤ j) (h1 : j < 6) : -2 ≤ V 9 j.toNat ∧ V 9 j.toNat < V 11 0 := h.2.2.2.2.2.1 j h0 h1
theorem mI10 (h : mI V) {j : Int} (h0 : 0 ≤ j) (h1 : j < 3) : 0 ≤ V 10 j.toNat ∧ V 10 j.toNat ≤ 3 := h.2.2.2.2.2.2.1 j h0 h1
theorem mI13 (h : mI V) {j : Int} (h0 : 0 ≤ j) (h1 : j < V 11 0) : 0 ≤ V 13 j.toNat ∧ V 13 j.toNat ≤ 5 := (h.2.2.2.2.2.2.2.1 j h0 h1).1
theorem mI14 (h : mI V) {j : Int} (h0 : 0 ≤ j) (h1 : j < V 11 0) : 0 ≤ V 14 j.toNat ∧ V 14 j.toNat ≤ 2 := (h.2.2.2.2.2.2.2.1 j h0 h1).2.1
theorem mI15 (h : mI V) {j : Int} (h0 : 0 ≤ j) (h1 : j < V 11 0) : V 15 j.toNat = 0 ∨ V 15 j.toNat = 1 := (h.2.2.2.2.2.2.2.1 j h0 h1).2.2.1
theorem mI16 (h : mI V) {j : Int} (h0 : 0 ≤ j) (h1 : j < V 11 0) : -1 ≤ V 16 j.toNat ∧ V 16 j.toNat < V 17 0 := (h.2.2.2.2.2.2.2.1 j h0 h1).2.2.2
theorem mI18 (h : mI V) {j : Int} (h0 : 0 ≤ j) (h1 : j < V 17 0) : 0 ≤ V 18 j.toNat ∧ V 18 j.toNat ≤ 5 := (h.2.2.2.2.2.2.2.2.1 j h0 h1).1
theorem mI19 (h : mI V) {j : Int} (h0 : 0 ≤ j) (h1 : j < V 17 0) : 0 ≤ V 19 j.toNat ∧ V 19 j.toNat ≤ 3 := (h.2.2.2.2.2.2.2.2.1 j h0 h1).2.1
theorem mI20 (h : mI V) {j : Int} (h0 : 0 ≤ j) (h1 : j < V 17 0) : 0 ≤ V 20 j.toNat ∧ V 20 j.toNat ≤ 5 := (h.2.2.2.2.2.2.2.2.1 j h0 h1).2.2.1
theorem mI21 (h : mI V) {j : Int} (h0 : 0 ≤ j) (h1 : j < V 17 0) : 0 ≤ V 21 j.toNat ∧ V 21 j.toNat ≤ 2 := (h.2.2.2.2.2.2.2.2.1 j h0 h1).2.2.2.1
theorem mI22 (h : mI V) {j : Int} (h0 : 0 ≤ j) (h1 : j < V 17 0) : 0 ≤ V 22 j.toNat ∧ V 22 j.toNat ≤ 10010 := (h.2.2.2.2.2.2.2.2.1 j h0 h1).2.2.2.2.1
theorem mI23 (h : mI V) {j : Int} (h0 : 0 ≤ j) (h1 : j < V 17 0) : 0 ≤ V 23 j.toNat ∧ V 23 j.toNat ≤ 30 := (h.2.2.2.2.2.2.2.2.1 j h0 h1).2.2.2.2.2
theorem mI24 (h : mI V) {a k : Int} (h0 : 0 ≤ a) (h1 : a < V 17 0) (h2 : 0 ≤ k) (h3 : k < V 23 a.toNat) : 0 ≤ V 24 (30 * a + k).toNat ∧ V 24 (30 * a + k).toNat < V 2 0 := h.2.2.2.2.2.2.2.2.2.1 a k h0 h1 h2 h3
theorem mI26 (h : mI V) {j : Int} (h0 : 0 ≤ j) (h1 : j < V 25 0) : 0 ≤ V 26 j.toNat ∧ V 26 j.toNat ≤ 2 := (h.2.2.2.2.2.2.2.2.2.2.1 j h0 h1).1
theorem mI27 (h : mI V) {j : Int} (h0 : 0 ≤ j) (h1 : j < V 25 0) : V 27 j.toNat = 0 ∨ V 27 j.toNat = 1 := (h.2.2.2.2.2.2.2.2.2.2.1 j h0 h1).2.1
theorem mI28 (h : mI V) {j : Int} (h0 : 0 ≤ j) (h1 : j < V 25 0) : 0 ≤ V 28 j.toNat ∧ V 28 j.toNat ≤ 6 := (h.2.2.2.2.2.2.2.2.2.2.1 j h0 h1).2.2
theorem mI29 (h : mI V) {a k : Int} (h0 : 0 ≤ a) (h1 : a < V 25 0) (h2 : 0 ≤ k) (h3 : k < V 28 a.toNat) : 0 ≤ V 29 (6 * a + k).toNat ∧ V 29 (6 * a + k).toNat < V 2 0 := h.2.2.2.2.2.2.2.2.2.2.2 a k h0 h1 h2 h3
theorem mI_0 {x : Int} (h : mI V) : mI (vS V 0 0 x) := h
end
/-! what the reference's methods do: V ↦ answer, V -/
def mPuts (V : gV) (y t w : Int) : gV := vS (vS (vS V 7 (6 * (5 * y + t) + V 6 (5 * y + t).toNat).toNat w) 6 (5 * y + t).toNat (V 6 (5 * y + t).toNat + 1)) 3 w.toNat (10 * y + t)
def mWagonT (V : gV) (y t : Int) : Int := if ¬ isTrk y t then 1 else if V 2 0 = 30 ∨ V 6 (5 * y + t).toNat = 6 then 2 else 0
def mWagon (V : gV) (y t : Int) : Int × gV := if 0 < mWagonT V y t then (0, vS V 0 0 (mWagonT V y t)) else
  (mPuts (vS (vS (vS V 0 0 (mWagonT V y t)) 4 (V 2 0).toNat (-1)) 5 (V 2 0).toNat (-1)) y t (V 2 0) 2 0 + 1 - 1, vS (mPuts (vS (vS (vS V 0 0 (mWagonT V y t)) 4 (V 2 0).toNat (-1)) 5 (V 2 0).toNat (-1)) y t (V 2 0)) 2 0 (mPuts (vS (vS (vS V 0 0 (mWagonT V y t)) 4 (V 2 0).toNat (-1)) 5 (V 2 0).toNat (-1)) y t (V 2 0) 2 0 + 1))
def mWashT (V : gV) (y : Int) : Int := if ¬ isYd y then 1 else if V 6 (5 * y).toNat = 0 then 2 else 0
def mWash (V : gV) (y : Int) : Int × gV := if 0 < mWashT V y then (0, vS V 0 0 (mWashT V y)) else
  (V 4 (V 7 (6 * (5 * y) + V 6 (5 * y).toNat - 1).toNat).toNat, vS (vS V 0 0 (mWashT V y)) 4 (V 7 (6 * (5 * y) + V 6 (5 * y).toNat - 1).toNat).toNat (-1))
def mOnT (_ : gV) (y t : Int) : Int := if isTrk y t then 0 else 1
def mOn (V : gV) (y t : Int) : Int × gV := if 0 < mOnT V y t then (0, vS V 0 0 (mOnT V y t)) else (V 6 (5 * y + t).toNat, vS V 0 0 (mOnT V y t))
def mAtT (V : gV) (y t p : Int) : Int := if ¬ isTrk y t then 1 else if 0 ≤ p ∧ p ≤ V 6 (5 * y + t).toNat - 1 then 0 else 2
def mAt (V : gV) (y t p : Int) : Int × gV := if 0 < mAtT V y t p then (0, vS V 0 0 (mAtT V y t p)) else (V 7 (6 * (5 * y + t) + p).toNat, vS V 0 0 (mAtT V y t p))
def mAsk0 (V : gV) (p : Prop) [Decidable p] : gV := vS V 0 0 (bI (¬ p))
def mWhere (V : gV) (w : Int) : Int := if isWg V w then V 3 w.toNat else 0
def mCarried (V : gV) (w : Int) : Int := if isWg V w then V 4 w.toNat else 0
def mState (V : gV) (w : Int) : Int := if isBk V w then V 18 w.toNat else 0
def mMany (V : gV) (w : Int) : Int := if isBk V w then V 23 w.toNat else 0
def mPromised (V : gV) (w : Int) : Int := if isWg V w then (if isPr V w then V 5 w.toNat else -1) else 0
set_option maxHeartbeats 1000000 in
theorem mc_in (l : Launch) (EV : gEV) (M : gM) {v : Int} (hv : inR v) {lo : Int} (hlo : inR lo) {hi : Int} (hhi : inR hi) : GC l yX4_in (ws_ yX4_in cX4_in 3 (some .boolean)) 1 0 0 EV [.int (iI v), .int (iI lo), .int (iI hi)] M (fun w M' => w = some (.int (iI (bI (lo ≤ v ∧ v ≤ hi)))) ∧ M' = M) gNo := by
  refine g_body tbX4_in tkX4_in (by decide) (by intro v hv; simp only [List.mem_cons, List.not_mem_nil, or_false] at hv; rcases hv with rfl | rfl | rfl <;> rfl) (Nat.le_of_ble_eq_true rfl) (fun z Q X hl hR hQ hE => ?_)
  subst hl
  show gG z _ EV Q M 0 0 0 [some (.int (iI v)), some (.int (iI lo)), some (.int (iI hi))] []
  refine g_run X 2 (pc1 := 2) (ls1 := [_, _, _]) (st1 := [_, _]) rfl ?_
  refine g_br X (pc1 := 14) (st1 := []) rfl (fun b9 => ?_) (fun b9 => ?_)
  · have c2 : v < lo := cLt b9 (by omega) (by omega)
    refine g_run X 1 (pc1 := 15) (ls1 := [_, _, _]) (st1 := [_]) rfl ?_
    exact g_zret X hQ rfl rfl rfl (Nat.le_refl _) (Nat.le_refl _) ⟨by rw [bI_0 (p := lo ≤ v ∧ v ≤ hi) (by omega)], rfl⟩
  · have c2 : lo ≤ v := cNl b9 (by omega) (by omega)
    refine g_run X 2 (pc1 := 7) (ls1 := [_, _, _]) (st1 := [_, _]) rfl ?_
    refine g_br X (pc1 := 14) (st1 := []) rfl (fun b9 => ?_) (fun b9 => ?_)
    · have c7 : hi < v := cLt b9 (by omega) (by omega)
      refine g_run X 1 (pc1 := 15) (ls1 := [_, _, _]) (st1 := [_]) rfl ?_
      exact g_zret X hQ rfl rfl rfl (Nat.le_refl _) (Nat.le_refl _) ⟨by rw [bI_0 (p := lo ≤ v ∧ v ≤ hi) (by omega)], rfl⟩
    · have c7 : v ≤ hi := cNl b9 (by omega) (by omega)
      refine g_run X 2 (pc1 := 15) (ls1 := [_, _, _]) (st1 := [_]) rfl ?_
      exact g_zret X hQ rfl rfl rfl (Nat.le_refl _) (Nat.le_refl _) ⟨by rw [bI_1 (p := lo ≤ v ∧ v ≤ hi) (by omega)], rfl⟩
set_option maxHeartbeats 1000000 in
theorem mc_isYard (l : Launch) (EV : gEV) (M : gM) {y : Int} (hy : inR y) : GC l yX4_isYard (ws_ yX4_isYard cX4_isYard 1 (some .boolean)) 2 0 0 EV [.int (iI y)] M (fun w M' => w = some (.int (iI (bI (isYd y)))) ∧ M' = M) gNo := by
  refine g_body tbX4_isYard tkX4_isYard (by decide) (by intro v hv; simp only [List.mem_cons, List.not_mem_nil, or_false] at hv; rcases hv with rfl <;> rfl) (Nat.le_of_ble_eq_true rfl) (fun z Q X hl hR hQ hE => ?_)
  subst hl
  show gG z _ EV Q M 0 0 0 [some (.int (iI y))] []
  refine g_run X 3 (pc1 := 3) (ls1 := [_]) (st1 := [_, _, _]) rfl ?_
  refine g_callS X rfl mX4_84 (mc_in z.2.1 EV M (v := y) (lo := 0) (hi := 2) (by omega) (by omega) (by omega)) rfl rfl (Nat.le_of_ble_eq_true rfl) (gFit.of hR (by decide) (by decide) (by decide)) (fun _ _ h => h.elim) (fun w M' h => ?_)
  obtain ⟨rfl, h2⟩ := h
  rw [h2]
  refine gG_eq (st' := [.int (iI (bI (0 ≤ y ∧ y ≤ 2)))]) rfl rfl ?_
  exact g_zret X hQ rfl rfl (bI_n _) (Nat.le_refl _) (Nat.le_refl _) ⟨by congr 4, rfl⟩
set_option maxHeartbeats 1000000 in
theorem mc_isTrack (l : Launch) (EV : gEV) (M : gM) {y : Int} (hy : inR y) {t : Int} (ht : inR t) : GC l yX4_isTrack (ws_ yX4_isTrack cX4_isTrack 2 (some .boolean)) 3 0 0 EV [.int (iI y), .int (iI t)] M (fun w M' => w = some (.int (iI (bI (isTrk y t)))) ∧ M' = M) gNo := by
  refine g_body tbX4_isTrack tkX4_isTrack (by decide) (by intro v hv; simp only [List.mem_cons, List.not_mem_nil, or_false] at hv; rcases hv with rfl | rfl <;> rfl) (Nat.le_of_ble_eq_true rfl) (fun z Q X hl hR hQ hE => ?_)
  subst hl
  show gG z _ EV Q M 0 0 0 [some (.int (iI y)), some (.int (iI t))] []
  refine g_run X 1 (pc1 := 1) (ls1 := [_, _]) (st1 := [_]) rfl ?_
  refine g_callS X rfl mX4_88 (mc_isYard z.2.1 EV M (y := y) (by omega)) rfl rfl (Nat.le_of_ble_eq_true rfl) (gFit.of hR (by decide) (by decide) (by decide)) (fun _ _ h => h.elim) (fun w M' h => ?_)
  obtain ⟨rfl, h2⟩ := h
  rw [h2]
  refine gG_eq (st' := [.int (iI (bI (isYd y)))]) rfl rfl ?_
  refine g_br X (pc1 := 20) (st1 := []) rfl (fun b9 => ?_) (fun b9 => ?_)
  · have c4 : ¬ (isYd y) := bI_f b9
    refine g_run X 1 (pc1 := 21) (ls1 := [_, _]) (st1 := [_]) rfl ?_
    exact g_zret X hQ rfl rfl rfl (Nat.le_refl _) (Nat.le_refl _) ⟨by rw [bI_0 (p := isTrk y t) (by omega)], rfl⟩
  · have c4 : isYd y := bI_t b9
    refine g_run X 3 (pc1 := 10) (ls1 := [_, _]) (st1 := [_, _, _]) rfl ?_
    refine g_callS X rfl mX4_84 (mc_in z.2.1 EV M (v := t) (lo := 0) (hi := 4) (by omega) (by omega) (by omega)) rfl rfl (Nat.le_of_ble_eq_true rfl) (gFit.of hR (by decide) (by decide) (by decide)) (fun _ _ h => h.elim) (fun w M' h => ?_)
    obtain ⟨rfl, h2⟩ := h
    rw [h2]
    refine gG_eq (st' := [.int (iI (bI (0 ≤ t ∧ t ≤ 4)))]) rfl rfl ?_
    refine g_br X (pc1 := 20) (st1 := []) rfl (fun b9 => ?_) (fun b9 => ?_)
    · have c13 : ¬ (0 ≤ t ∧ t ≤ 4) := bI_f b9
      refine g_run X 1 (pc1 := 21) (ls1 := [_, _]) (st1 := [_]) rfl ?_
      exact g_zret X hQ rfl rfl rfl (Nat.le_refl _) (Nat.le_refl _) ⟨by rw [bI_0 (p := isTrk y t) (by omega)], rfl⟩
    · have c13 : 0 ≤ t ∧ t ≤ 4 := bI_t b9
      refine g_run X 2 (pc1 := 21) (ls1 := [_, _]) (st1 := [_]) rfl ?_
      exact g_zret X hQ rfl rfl rfl (Nat.le_refl _) (Nat.le_refl _) ⟨by rw [bI_1 (p := isTrk y t) (by omega)], rfl⟩
set_option maxHeartbeats 1000000 in
theorem mc_isGrain (l : Launch) (EV : gEV) (M : gM) {g : Int} (hg : inR g) : GC l yX4_isGrain (ws_ yX4_isGrain cX4_isGrain 1 (some .boolean)) 2 0 0 EV [.int (iI g)] M (fun w M' => w = some (.int (iI (bI (isGr g)))) ∧ M' = M) gNo := by
  refine g_body tbX4_isGrain tkX4_isGrain (by decide) (by intro v hv; simp only [List.mem_cons, List.not_mem_nil, or_false] at hv; rcases hv with rfl <;> rfl) (Nat.le_of_ble_eq_true rfl) (fun z Q X hl hR hQ hE => ?_)
  subst hl
  show gG z _ EV Q M 0 0 0 [some (.int (iI g))] []
  refine g_run X 3 (pc1 := 3) (ls1 := [_]) (st1 := [_, _, _]) rfl ?_
  refine g_callS X rfl mX4_84 (mc_in z.2.1 EV M (v := g) (lo := 0) (hi := 3) (by omega) (by omega) (by omega)) rfl rfl (Nat.le_of_ble_eq_true rfl) (gFit.of hR (by decide) (by decide) (by decide)) (fun _ _ h => h.elim) (fun w M' h => ?_)
  obtain ⟨rfl, h2⟩ := h
  rw [h2]
  refine gG_eq (st' := [.int (iI (bI (0 ≤ g ∧ g ≤ 3)))]) rfl rfl ?_
  exact g_zret X hQ rfl rfl (bI_n _) (Nat.le_refl _) (Nat.le_refl _) ⟨by congr 4, rfl⟩
set_option maxHeartbeats 1000000 in
theorem mc_between (l : Launch) (EV : gEV) (M : gM) {a : Int} (ha : inR a) {b : Int} (hb : inR b) : GC l yX4_between (ws_ yX4_between cX4_between 2 (some .int)) 1 0 0 EV [.int (iI a), .int (iI b)] M (fun w M' => w = some (.int (iI (2 * (a + b - 1)))) ∧ M' = M) gNo := by
  refine g_body tbX4_between tkX4_between (by decide) (by intro v hv; simp only [List.mem_cons, List.not_mem_nil, or_false] at hv; rcases hv with rfl | rfl <;> rfl) (Nat.le_of_ble_eq_true rfl) (fun z Q X hl hR hQ hE => ?_)
  subst hl
  show gG z _ EV Q M 0 0 0 [some (.int (iI a)), some (.int (iI b))] []
  refine g_run X 7 (pc1 := 7) (ls1 := [_, _]) (st1 := [_]) rfl ?_
  refine gG_eq (ls' := [some (.int (iI a)), some (.int (iI b))]) (st' := [.int (iI (2 * ((a + b) - 1)))]) (by simp only [iI_add, iI_sub, iI_mul, iI_neg]) (by simp only [iI_add, iI_sub, iI_mul, iI_neg]) ?_
  exact g_iret X hQ rfl rfl (Nat.le_refl _) (Nat.le_refl _) ⟨rfl, rfl⟩
set_option maxHeartbeats 1000000 in
theorem mc_isTrunk (l : Launch) (EV : gEV) (M : gM) {a : Int} (ha : inR a) {b : Int} (hb : inR b) {k : Int} (hk : inR k) : GC l yX4_isTrunk (ws_ yX4_isTrunk cX4_isTrunk 3 (some .boolean)) 3 0 0 EV [.int (iI a), .int (iI b), .int (iI k)] M (fun w M' => w = some (.int (iI (bI (isTk a b k)))) ∧ M' = M) gNo := by
  refine g_body tbX4_isTrunk tkX4_isTrunk (by decide) (by intro v hv; simp only [List.mem_cons, List.not_mem_nil, or_false] at hv; rcases hv with rfl | rfl | rfl <;> rfl) (Nat.le_of_ble_eq_true rfl) (fun z Q X hl hR hQ hE => ?_)
  subst hl
  show gG z _ EV Q M 0 0 0 [some (.int (iI a)), some (.int (iI b)), some (.int (iI k))] []
  refine g_run X 1 (pc1 := 1) (ls1 := [_, _, _]) (st1 := [_]) rfl ?_
  refine g_callS X rfl mX4_88 (mc_isYard z.2.1 EV M (y := a) (by omega)) rfl rfl (Nat.le_of_ble_eq_true rfl) (gFit.of hR (by decide) (by decide) (by decide)) (fun _ _ h => h.elim) (fun w M' h => ?_)
  obtain ⟨rfl, h2⟩ := h
  rw [h2]
  refine gG_eq (st' := [.int (iI (bI (isYd a)))]) rfl rfl ?_
  refine g_br X (pc1 := 32) (st1 := []) rfl (fun b9 => ?_) (fun b9 => ?_)
  · have c4 : ¬ (isYd a) := bI_f b9
    refine g_run X 1 (pc1 := 33) (ls1 := [_, _, _]) (st1 := [_]) rfl ?_
    exact g_zret X hQ rfl rfl rfl (Nat.le_refl _) (Nat.le_refl _) ⟨by rw [bI_0 (p := isTk a b k) (by omega)], rfl⟩
  · have c4 : isYd a := bI_t b9
    refine g_run X 1 (pc1 := 8) (ls1 := [_, _, _]) (st1 := [_]) rfl ?_
    refine g_callS X rfl mX4_88 (mc_isYard z.2.1 EV M (y := b) (by omega)) rfl rfl (Nat.le_of_ble_eq_true rfl) (gFit.of hR (by decide) (by decide) (by decide)) (fun _ _ h => h.elim) (fun w M' h => ?_)
    obtain ⟨rfl, h2⟩ := h
    rw [h2]
    refine gG_eq (st' := [.int (iI (bI (isYd b)))]) rfl rfl ?_
    refine g_br X (pc1 := 32) (st1 := []) rfl (fun b9 => ?_) (fun b9 => ?_)
    · have c11 : ¬ (isYd b) := bI_f b9
      refine g_run X 1 (pc1 := 33) (ls1 := [_, _, _]) (st1 := [_]) rfl ?_
      exact g_zret X hQ rfl rfl rfl (Nat.le_refl _) (Nat.le_refl _) ⟨by rw [bI_0 (p := isTk a b k) (by omega)], rfl⟩
    · have c11 : isYd b := bI_t b9
      refine g_run X 2 (pc1 := 16) (ls1 := [_, _, _]) (st1 := [_, _]) rfl ?_
      refine g_br X (pc1 := 32) (st1 := []) rfl (fun b9 => ?_) (fun b9 => ?_)
      · have c16 : a = b := cEq b9 (by omega) (by omega)
        refine g_run X 1 (pc1 := 33) (ls1 := [_, _, _]) (st1 := [_]) rfl ?_
        exact g_zret X hQ rfl rfl rfl (Nat.le_refl _) (Nat.le_refl _) ⟨by rw [bI_0 (p := isTk a b k) (by omega)], rfl⟩
      · have c16 : ¬ a = b := cNq b9 (by omega) (by omega)
        refine g_run X 3 (pc1 := 22) (ls1 := [_, _, _]) (st1 := [_, _, _]) rfl ?_
        refine g_callS X rfl mX4_84 (mc_in z.2.1 EV M (v := k) (lo := 0) (hi := 1) (by omega) (by omega) (by omega)) rfl rfl (Nat.le_of_ble_eq_true rfl) (gFit.of hR (by decide) (by decide) (by decide)) (fun _ _ h => h.elim) (fun w M' h => ?_)
        obtain ⟨rfl, h2⟩ := h
        rw [h2]
        refine gG_eq (st' := [.int (iI (bI (0 ≤ k ∧ k ≤ 1)))]) rfl rfl ?_
        refine g_br X (pc1 := 32) (st1 := []) rfl (fun b9 => ?_) (fun b9 => ?_)
        · have c25 : ¬ (0 ≤ k ∧ k ≤ 1) := bI_f b9
          refine g_run X 1 (pc1 := 33) (ls1 := [_, _, _]) (st1 := [_]) rfl ?_
          exact g_zret X hQ rfl rfl rfl (Nat.le_refl _) (Nat.le_refl _) ⟨by rw [bI_0 (p := isTk a b k) (by omega)], rfl⟩
        · have c25 : 0 ≤ k ∧ k ≤ 1 := bI_t b9
          refine g_run X 2 (pc1 := 33) (ls1 := [_, _, _]) (st1 := [_]) rfl ?_
          exact g_zret X hQ rfl rfl rfl (Nat.le_refl _) (Nat.le_refl _) ⟨by rw [bI_1 (p := isTk a b k) (by omega)], rfl⟩
set_option maxHeartbeats 1000000 in
theorem mc_isWagon (l : Launch) (EV : gEV) (am : Nat) (ad : Nat → Nat) {V : gV} {w : Int} (hw : inR w) (hI : mI V) : MC l yX4_isWagon cX4_isWagon 2 (some .boolean) 3 EV am ad [.int (iI w)] V (some (.int (iI (bI (isWg V w))))) (V) := by
  intro M0 hM0
  refine g_body tbX4_isWagon tkX4_isWagon (by decide) (by intro v hv; simp only [List.mem_cons, List.not_mem_nil, or_false] at hv; rcases hv with rfl | rfl <;> rfl) (Nat.le_of_ble_eq_true rfl) (fun z Q X hl hR hQ hE => ?_)
  subst hl
  refine (?_ : gMd z _ EV Q M0 am ad V 0 [some (.ref am), some (.int (iI w))] []) M0 hM0 gFr.rf
  have hs := mIs hI
  refine gm_run X 3 (pc1 := 3) (ls1 := [_, _]) (st1 := [_, _, _]) rfl ?_
  refine gm_get X rfl fX4_92 (v := .int (iI (V 2 0))) rfl ?_
  refine gm_run X 2 (pc1 := 8) (ls1 := [_, _]) (st1 := [_, _, _]) rfl ?_
  refine gm_eq (ls' := [some (.ref am), some (.int (iI w))]) (st' := [.int (iI ((V 2 0) - 1)), .int (iI 0), .int (iI w)]) (by simp only [iI_add, iI_sub, iI_mul, iI_neg]) (by simp only [iI_add, iI_sub, iI_mul, iI_neg]) ?_
  refine gm_callS X rfl mX4_84 (fun M => mc_in z.2.1 EV M (v := w) (lo := 0) (hi := ((V 2 0) - 1)) (by omega) (by omega) (by omega)) rfl rfl (Nat.le_of_ble_eq_true rfl) (gFit.of hR (by decide) (by decide) (by decide)) ?_
  refine gm_eq (st' := [.int (iI (bI (0 ≤ w ∧ w ≤ ((V 2 0) - 1))))]) rfl rfl ?_
  exact gm_zret X hQ rfl rfl (bI_n _) (by congr 4) rfl
set_option maxHeartbeats 1000000 in
theorem mc_isCall (l : Launch) (EV : gEV) (am : Nat) (ad : Nat → Nat) {V : gV} {w : Int} (hw : inR w) (hI : mI V) : MC l yX4_isCall cX4_isCall 2 (some .boolean) 3 EV am ad [.int (iI w)] V (some (.int (iI (bI (isCl V w))))) (V) := by
  intro M0 hM0
  refine g_body tbX4_isCall tkX4_isCall (by decide) (by intro v hv; simp only [List.mem_cons, List.not_mem_nil, or_false] at hv; rcases hv with rfl | rfl <;> rfl) (Nat.le_of_ble_eq_true rfl) (fun z Q X hl hR hQ hE => ?_)
  subst hl
  refine (?_ : gMd z _ EV Q M0 am ad V 0 [some (.ref am), some (.int (iI w))] []) M0 hM0 gFr.rf
  have hs := mIs hI
  refine gm_run X 3 (pc1 := 3) (ls1 := [_, _]) (st1 := [_, _, _]) rfl ?_
  refine gm_get X rfl fX4_119 (v := .int (iI (V 11 0))) rfl ?_
  refine gm_run X 2 (pc1 := 8) (ls1 := [_, _]) (st1 := [_, _, _]) rfl ?_
  refine gm_eq (ls' := [some (.ref am), some (.int (iI w))]) (st' := [.int (iI ((V 11 0) - 1)), .int (iI 0), .int (iI w)]) (by simp only [iI_add, iI_sub, iI_mul, iI_neg]) (by simp only [iI_add, iI_sub, iI_mul, iI_neg]) ?_
  refine gm_callS X rfl mX4_84 (fun M => mc_in z.2.1 EV M (v := w) (lo := 0) (hi := ((V 11 0) - 1)) (by omega) (by omega) (by omega)) rfl rfl (Nat.le_of_ble_eq_true rfl) (gFit.of hR (by decide) (by decide) (by decide)) ?_
  refine gm_eq (st' := [.int (iI (bI (0 ≤ w ∧ w ≤ ((V 11 0) - 1))))]) rfl rfl ?_
  exact gm_zret X hQ rfl rfl (bI_n _) (by congr 4) rfl
set_option maxHeartbeats 1000000 in
theorem mc_isBooking (l : Launch) (EV : gEV) (am : Nat) (ad : Nat → Nat) {V : gV} {w : Int} (hw : inR w) (hI : mI V) : MC l yX4_isBooking cX4_isBooking 2 (some .boolean) 3 EV am ad [.int (iI w)] V (some (.int (iI (bI (isBk V w))))) (V) := by
  intro M0 hM0
  refine g_body tbX4_isBooking tkX4_isBooking (by decide) (by intro v hv; simp only [List.mem_cons, List.not_mem_nil, or_false] at hv; rcases hv with rfl | rfl <;> rfl) (Nat.le_of_ble_eq_true rfl) (fun z Q X hl hR hQ hE => ?_)
  subst hl
  refine (?_ : gMd z _ EV Q M0 am ad V 0 [some (.ref am), some (.int (iI w))] []) M0 hM0 gFr.rf
  have hs := mIs hI
  refine gm_run X 3 (pc1 := 3) (ls1 := [_, _]) (st1 := [_, _, _]) rfl ?_
  refine gm_get X rfl fX4_122 (v := .int (iI (V 17 0))) rfl ?_
  refine gm_run X 2 (pc1 := 8) (ls1 := [_, _]) (st1 := [_, _, _]) rfl ?_
  refine gm_eq (ls' := [some (.ref am), some (.int (iI w))]) (st' := [.int (iI ((V 17 0) - 1)), .int (iI 0), .int (iI w)]) (by simp only [iI_add, iI_sub, iI_mul, iI_neg]) (by simp only [iI_add, iI_sub, iI_mul, iI_neg]) ?_
  refine gm_callS X rfl mX4_84 (fun M => mc_in z.2.1 EV M (v := w) (lo := 0) (hi := ((V 17 0) - 1)) (by omega) (by omega) (by omega)) rfl rfl (Nat.le_of_ble_eq_true rfl) (gFit.of hR (by decide) (by decide) (by decide)) ?_
  refine gm_eq (st' := [.int (iI (bI (0 ≤ w ∧ w ≤ ((V 17 0) - 1))))]) rfl rfl ?_
  exact gm_zret X hQ rfl rfl (bI_n _) (by congr 4) rfl
set_option maxHeartbeats 1000000 in
theorem mc_puts (l : Launch) (EV : gEV) (am : Nat) (ad : Nat → Nat) {V : gV} {y : Int} (hy : inR y) {t : Int} (ht : inR t) {w : Int} (hw : inR w) (hy2 : isTrk y t) (hw2 : 0 ≤ w ∧ w < 30) (ho : 0 ≤ V 6 (5 * y + t).toNat ∧ V 6 (5 * y + t).toNat < 6) : MC l yX4_puts cX4_puts 5 none 1 EV am ad [.int (iI y), .int (iI t), .int (iI w)] V (none) (mPuts V y t w) := by
  intro M0 hM0
  refine g_body tbX4_puts tkX4_puts (by decide) (by intro v hv; simp only [List.mem_cons, List.not_mem_nil, or_false] at hv; rcases hv with rfl | rfl | rfl | rfl <;> rfl) (Nat.le_of_ble_eq_true rfl) (fun z Q X hl hR hQ hE => ?_)
  subst hl
  refine (?_ : gMd z _ EV Q M0 am ad V 0 [some (.ref am), some (.int (iI y)), some (.int (iI t)), some (.int (iI w)), none] []) M0 hM0 gFr.rf
  refine gm_run X 7 (pc1 := 8) (ls1 := [_, _, _, _, _]) (st1 := [_]) rfl ?_
  refine gm_eq (ls' := [some (.ref am), some (.int (iI y)), some (.int (iI t)), some (.int (iI w)), some (.int (iI ((5 * y) + t)))]) (st' := [.ref am]) (by simp only [iI_add, iI_sub, iI_mul, iI_neg]) (by simp only [iI_add, iI_sub, iI_mul, iI_neg]) ?_
  refine gm_get X rfl fX4_22 (v := .ref (ad 7)) rfl ?_
  refine gm_run X 4 (pc1 := 17) (ls1 := [_, _, _, _, _]) (st1 := [_, _, _]) rfl ?_
  refine gm_eq (ls' := [some (.ref am), some (.int (iI y)), some (.int (iI t)), some (.int (iI w)), some (.int (iI ((5 * y) + t)))]) (st' := [.ref am, .int (iI (6 * ((5 * y) + t))), .ref (ad 7)]) (by simp only [iI_add, iI_sub, iI_mul, iI_neg]) (by simp only [iI_add, iI_sub, iI_mul, iI_neg]) ?_
  refine gm_get X rfl fX4_19 (v := .ref (ad 6)) rfl ?_
  refine gm_run X 1 (pc1 := 22) (ls1 := [_, _, _, _, _]) (st1 := [_, _, _, _]) rfl ?_
  refine gm_ald X 6 (x := ((5 * y) + t)) (v := (V 6 ((5 * y) + t).toNat)) rfl rfl (by decide) (by show (0:Int) ≤ ((5 * y) + t) ∧ ((5 * y) + t) < 15; omega) (rfl) ?_
  refine gm_run X 2 (pc1 := 25) (ls1 := [_, _, _, _, _]) (st1 := [_, _, _]) rfl ?_
  refine gm_eq (ls' := [some (.ref am), some (.int (iI y)), some (.int (iI t)), some (.int (iI w)), some (.int (iI ((5 * y) + t)))]) (st' := [.int (iI w), .int (iI ((6 * ((5 * y) + t)) + (V 6 ((5 * y) + t).toNat))), .ref (ad 7)]) (by simp only [iI_add, iI_sub, iI_mul, iI_neg]) (by simp only [iI_add, iI_sub, iI_mul, iI_neg]) ?_
  refine gm_ast X 7 (x := ((6 * ((5 * y) + t)) + (V 6 ((5 * y) + t).toNat))) (v := w) rfl rfl (by decide) (by show (0:Int) ≤ ((6 * ((5 * y) + t)) + (V 6 ((5 * y) + t).toNat)) ∧ ((6 * ((5 * y) + t)) + (V 6 ((5 * y) + t).toNat)) < 90; omega) ?_
  refine gm_run X 1 (pc1 := 27) (ls1 := [_, _, _, _, _]) (st1 := [_]) rfl ?_
  refine gm_get X rfl fX4_19 (v := .ref (ad 6)) rfl ?_
  refine gm_run X 2 (pc1 := 33) (ls1 := [_, _, _, _, _]) (st1 := [_, _, _, _]) rfl ?_
  refine gm_ald X 6 (x := ((5 * y) + t)) (v := (V 6 ((5 * y) + t).toNat)) rfl rfl (by decide) (by show (0:Int) ≤ ((5 * y) + t) ∧ ((5 * y) + t) < 15; omega) (rfl) ?_
  refine gm_run X 2 (pc1 := 36) (ls1 := [_, _, _, _, _]) (st1 := [_, _, _]) rfl ?_
  refine gm_eq (ls' := [some (.ref am), some (.int (iI y)), some (.int (iI t)), some (.int (iI w)), some (.int (iI ((5 * y) + t)))]) (st' := [.int (iI ((V 6 ((5 * y) + t).toNat) + 1)), .int (iI ((5 * y) + t)), .ref (ad 6)]) (by simp only [iI_add, iI_sub, iI_mul, iI_neg]) (by simp only [iI_add, iI_sub, iI_mul, iI_neg]) ?_
  refine gm_ast X 6 (x := ((5 * y) + t)) (v := ((V 6 ((5 * y) + t).toNat) + 1)) rfl rfl (by decide) (by show (0:Int) ≤ ((5 * y) + t) ∧ ((5 * y) + t) < 15; omega) ?_
  refine gm_run X 1 (pc1 := 38) (ls1 := [_, _, _, _, _]) (st1 := [_]) rfl ?_
  refine gm_get X rfl fX4_7 (v := .ref (ad 3)) rfl ?_
  refine gm_run X 6 (pc1 := 48) (ls1 := [_, _, _, _, _]) (st1 := [_, _, _]) rfl ?_
  refine gm_eq (ls' := [some (.ref am), some (.int (iI y)), some (.int (iI t)), some (.int (iI w)), some (.int (iI ((5 * y) + t)))]) (st' := [.int (iI ((10 * y) + t)), .int (iI w), .ref (ad 3)]) (by simp only [iI_add, iI_sub, iI_mul, iI_neg]) (by simp only [iI_add, iI_sub, iI_mul, iI_neg]) ?_
  refine gm_ast X 3 (x := w) (v := ((10 * y) + t)) rfl rfl (by decide) (by show (0:Int) ≤ w ∧ w < 30; omega) ?_
  exact gm_vret X hQ rfl rfl rfl rfl
set_option maxHeartbeats 1000000 in
theorem mc_thrown (l : Launch) (EV : gEV) (am : Nat) (ad : Nat → Nat) {V : gV} : MC l yX4_thrown cX4_thrown 1 (some .int) 1 EV am ad [] V (some (.int (iI (V 0 0)))) (V) := by
  intro M0 hM0
  refine g_body tbX4_thrown tkX4_thrown (by decide) (by intro v hv; simp only [List.mem_cons, List.not_mem_nil, or_false] at hv; rcases hv with rfl <;> rfl) (Nat.le_of_ble_eq_true rfl) (fun z Q X hl hR hQ hE => ?_)
  subst hl
  refine (?_ : gMd z _ EV Q M0 am ad V 0 [some (.ref am)] []) M0 hM0 gFr.rf
  refine gm_run X 1 (pc1 := 1) (ls1 := [_]) (st1 := [_]) rfl ?_
  refine gm_get X rfl fX4_80 (v := .int (iI (V 0 0))) rfl ?_
  exact gm_ret X hQ rfl rfl rfl rfl
set_option maxHeartbeats 1000000 in
theorem mc_busy (l : Launch) (EV : gEV) (am : Nat) (ad : Nat → Nat) {V : gV} : MC l yX4_busy cX4_busy 1 (some .int) 1 EV am ad [] V (some (.int (iI (V 12 0)))) (vS V 0 0 0) := by
  intro M0 hM0
  refine g_body tbX4_busy tkX4_busy (by decide) (by intro v hv; simp only [List.mem_cons, List.not_mem_nil, or_false] at hv; rcases hv with rfl <;> rfl) (Nat.le_of_ble_eq_true rfl) (fun z Q X hl hR hQ hE => ?_)
  subst hl
  refine (?_ : gMd z _ EV Q M0 am ad V 0 [some (.ref am)] []) M0 hM0 gFr.rf
  refine gm_run X 2 (pc1 := 2) (ls1 := [_]) (st1 := [_, _]) rfl ?_
  refine gm_put X (v := 0) rfl fX4_80 (by decide) rfl mSet0 ?_
  refine gm_run X 1 (pc1 := 6) (ls1 := [_]) (st1 := [_]) rfl ?_
  refine gm_get X rfl fX4_142 (v := .int (iI (V 12 0))) rfl ?_
  exact gm_ret X hQ rfl rfl rfl rfl
set_option maxHeartbeats 1000000 in
theorem mc_bookings (l : Launch) (EV : gEV) (am : Nat) (ad : Nat → Nat) {V : gV} : MC l yX4_bookings cX4_bookings 1 (some .int) 1 EV am ad [] V (some (.int (iI (V 17 0)))) (vS V 0 0 0) := by
  intro M0 hM0
  refine g_body tbX4_bookings tkX4_bookings (by decide) (by intro v hv; simp only [List.mem_cons, List.not_mem_nil, or_false] at hv; rcases hv with rfl <;> rfl) (Nat.le_of_ble_eq_true rfl) (fun z Q X hl hR hQ hE => ?_)
  subst hl
  refine (?_ : gMd z _ EV Q M0 am ad V 0 [some (.ref am)] []) M0 hM0 gFr.rf
  refine gm_run X 2 (pc1 := 2) (ls1 := [_]) (st1 := [_, _]) rfl ?_
  refine gm_put X (v := 0) rfl fX4_80 (by decide) rfl mSet0 ?_
  refine gm_run X 1 (pc1 := 6) (ls1 := [_]) (st1 := [_]) rfl ?_
  refine gm_get X rfl fX4_122 (v := .int (iI (V 17 0))) rfl ?_
  exact gm_ret X hQ rfl rfl rfl rfl
set_option maxHeartbeats 1000000 in
theorem mc_trains (l : Launch) (EV : gEV) (am : Nat) (ad : Nat → Nat) {V : gV} : MC l yX4_trains cX4_trains 1 (some .int) 1 EV am ad [] V (some (.int (iI (V 25 0)))) (vS V 0 0 0) := by
  intro M0 hM0
  refine g_body tbX4_trains tkX4_trains (by decide) (by intro v hv; simp only [List.mem_cons, List.not_mem_nil, or_false] at hv; rcases hv with rfl <;> rfl) (Nat.le_of_ble_eq_true rfl) (fun z Q X hl hR hQ hE => ?_)
  subst hl
  refine (?_ : gMd z _ EV Q M0 am ad V 0 [some (.ref am)] []) M0 hM0 gFr.rf
  refine gm_run X 2 (pc1 := 2) (ls1 := [_]) (st1 := [_, _]) rfl ?_
  refine gm_put X (v := 0) rfl fX4_80 (by decide) rfl mSet0 ?_
  refine gm_run X 1 (pc1 := 6) (ls1 := [_]) (st1 := [_]) rfl ?_
  refine gm_get X rfl fX4_183 (v := .int (iI (V 25 0))) rfl ?_
  exact gm_ret X hQ rfl rfl rfl rfl
set_option maxHeartbeats 1000000 in
theorem mc_wagon (l : Launch) (EV : gEV) (am : Nat) (ad : Nat → Nat) {V : gV} {y : Int} (hy : inR y) {t : Int} (ht : inR t) (hI : mI V) : MC l yX4_wagon cX4_wagon 3 (some .int) 6 EV am ad [.int (iI y), .int (iI t)] V (some (.int (iI (mWagon V y t).1))) ((mWagon V y t).2) := by
  intro M0 hM0
  refine g_body tbX4_wagon tkX4_wagon (by decide) (by intro v hv; simp only [List.mem_cons, List.not_mem_nil, or_false] at hv; rcases hv with rfl | rfl | rfl <;> rfl) (Nat.le_of_ble_eq_true rfl) (fun z Q X hl hR hQ hE => ?_)
  subst hl
  refine (?_ : gMd z _ EV Q M0 am ad V 0 [some (.ref am), some (.int (iI y)), some (.int (iI t))] []) M0 hM0 gFr.rf
  have hs := mIs hI
  refine gm_run X 3 (pc1 := 3) (ls1 := [_, _, _]) (st1 := [_, _, _]) rfl ?_
  refine gm_callS X rfl mX4_95 (fun M => mc_isTrack z.2.1 EV M (y := y) (t := t) (by omega) (by omega)) rfl rfl (Nat.le_of_ble_eq_true rfl) (gFit.of hR (by decide) (by decide) (by decide)) ?_
  refine gm_eq (st' := [.int (iI (bI (isTrk y t))), .ref am]) rfl rfl ?_
  refine gm_br X (pc1 := 13) (st1 := [_]) rfl (fun b9 => ?_) (fun b9 => ?_)
  · have c6 : isTrk y t := bI_t b9
    refine gm_run X 1 (pc1 := 14) (ls1 := [_, _, _]) (st1 := [_, _]) rfl ?_
    refine gm_get X rfl fX4_92 (v := .int (iI (V 2 0))) rfl ?_
    refine gm_run X 1 (pc1 := 19) (ls1 := [_, _, _]) (st1 := [_, _, _]) rfl ?_
    refine gm_br X (pc1 := 37) (st1 := [_]) rfl (fun b9 => ?_) (fun b9 => ?_)
    · have c19 : (V 2 0) = 30 := cEq b9 (by omega) (by omega)
      refine gm_run X 2 (pc1 := 42) (ls1 := [_, _, _]) (st1 := [_, _]) rfl ?_
      refine gm_put X (v := 2) rfl fX4_80 (by decide) rfl mSet0 ?_
      have hT : mWagonT V y t = 2 := by unfold mWagonT; (repeat' split) <;> omega
      refine gm_run X 1 (pc1 := 46) (ls1 := [_, _, _]) (st1 := [_]) rfl ?_
      refine gm_get X rfl fX4_80 (v := .int (iI 2)) rfl ?_
      refine gm_br X (pc1 := 54) (st1 := []) rfl (fun b9 => ?_) (fun b9 => ?_)
      · have c49 : (2 : Int) ≤ (0 : Int) := cLe b9 (by omega) (by omega)
        exact absurd c49 (by omega)
      · have c49 : (0 : Int) < (2 : Int) := cNe b9 (by omega) (by omega)
        refine gm_run X 1 (pc1 := 53) (ls1 := [_, _, _]) (st1 := [_]) rfl ?_
        exact gm_ret X hQ rfl rfl (by unfold mWagon; rw [hT]; (repeat (first | rw [if_pos (by omega)] | rw [if_neg (by omega)])); all_goals (try rfl)) (by unfold mWagon; rw [hT]; (repeat (first | rw [if_pos (by omega)] | rw [if_neg (by omega)])); all_goals (try rfl))
    · have c19 : ¬ (V 2 0) = 30 := cNq b9 (by omega) (by omega)
      refine gm_run X 1 (pc1 := 23) (ls1 := [_, _, _]) (st1 := [_, _]) rfl ?_
      refine gm_get X rfl fX4_19 (v := .ref (ad 6)) rfl ?_
      refine gm_run X 5 (pc1 := 31) (ls1 := [_, _, _]) (st1 := [_, _, _]) rfl ?_
      refine gm_eq (ls' := [some (.ref am), some (.int (iI y)), some (.int (iI t))]) (st' := [.int (iI ((5 * y) + t)), .ref (ad 6), .ref am]) (by simp only [iI_add, iI_sub, iI_mul, iI_neg]) (by simp only [iI_add, iI_sub, iI_mul, iI_neg]) ?_
      refine gm_ald X 6 (x := ((5 * y) + t)) (v := (V 6 ((5 * y) + t).toNat)) rfl rfl (by decide) (by show (0:Int) ≤ ((5 * y) + t) ∧ ((5 * y) + t) < 15; omega) (rfl) ?_
      have b31 := mI6 hI (j := ((5 * y) + t)) (by omega) (by omega)
      refine gm_run X 1 (pc1 := 34) (ls1 := [_, _, _]) (st1 := [_, _, _]) rfl ?_
      refine gm_br X (pc1 := 41) (st1 := [_]) rfl (fun b9 => ?_) (fun b9 => ?_)
      · have c34 : ¬ (V 6 ((5 * y) + t).toNat) = 6 := cNq b9 (by omega) (by omega)
        refine gm_run X 1 (pc1 := 42) (ls1 := [_, _, _]) (st1 := [_, _]) rfl ?_
        refine gm_put X (v := 0) rfl fX4_80 (by decide) rfl mSet0 ?_
        have hT : mWagonT V y t = 0 := by unfold mWagonT; (repeat' split) <;> omega
        refine gm_run X 1 (pc1 := 46) (ls1 := [_, _, _]) (st1 := [_]) rfl ?_
        refine gm_get X rfl fX4_80 (v := .int (iI 0)) rfl ?_
        refine gm_br X (pc1 := 54) (st1 := []) rfl (fun b9 => ?_) (fun b9 => ?_)
        · have c49 : (0 : Int) ≤ (0 : Int) := cLe b9 (by omega) (by omega)
          refine gm_run X 1 (pc1 := 55) (ls1 := [_, _, _]) (st1 := [_]) rfl ?_
          refine gm_get X rfl fX4_13 (v := .ref (ad 4)) rfl ?_
          refine gm_run X 1 (pc1 := 59) (ls1 := [_, _, _]) (st1 := [_, _]) rfl ?_
          refine gm_get X rfl fX4_92 (v := .int (iI (V 2 0))) rfl ?_
          refine gm_run X 1 (pc1 := 63) (ls1 := [_, _, _]) (st1 := [_, _, _]) rfl ?_
          refine gm_ast X 4 (x := (V 2 0)) (v := (-1)) rfl rfl (by decide) (by show (0:Int) ≤ (V 2 0) ∧ (V 2 0) < 30; omega) ?_
          refine gm_run X 1 (pc1 := 65) (ls1 := [_, _, _]) (st1 := [_]) rfl ?_
          refine gm_get X rfl fX4_16 (v := .ref (ad 5)) rfl ?_
          refine gm_run X 1 (pc1 := 69) (ls1 := [_, _, _]) (st1 := [_, _]) rfl ?_
          refine gm_get X rfl fX4_92 (v := .int (iI (V 2 0))) rfl ?_
          refine gm_run X 1 (pc1 := 73) (ls1 := [_, _, _]) (st1 := [_, _, _]) rfl ?_
          refine gm_ast X 5 (x := (V 2 0)) (v := (-1)) rfl rfl (by decide) (by show (0:Int) ≤ (V 2 0) ∧ (V 2 0) < 30; omega) ?_
          refine gm_run X 4 (pc1 := 78) (ls1 := [_, _, _]) (st1 := [_, _, _, _]) rfl ?_
          refine gm_get X rfl fX4_92 (v := .int (iI (V 2 0))) rfl ?_
          refine gm_callV X rfl mX4_99 (mc_puts z.2.1 EV am ad (y := y) (t := t) (w := (V 2 0)) (by omega) (by omega) (by omega) (by omega) (by omega) (by show 0 ≤ V 6 _ ∧ V 6 _ < 6; omega)) rfl rfl (Nat.le_of_ble_eq_true rfl) (gFit.of hR (by decide) (by decide) (by decide)) ?_
          refine gm_eq (st' := []) rfl rfl ?_
          refine gm_run X 2 (pc1 := 86) (ls1 := [_, _, _]) (st1 := [_, _]) rfl ?_
          refine gm_get X rfl fX4_92 (v := .int (iI ((mPuts (vS (vS (vS V 0 0 0) 4 (V 2 0).toNat (-1)) 5 (V 2 0).toNat (-1)) y t (V 2 0)) 2 0))) rfl ?_
          refine gm_run X 2 (pc1 := 91) (ls1 := [_, _, _]) (st1 := [_, _]) rfl ?_
          refine gm_eq (ls' := [some (.ref am), some (.int (iI y)), some (.int (iI t))]) (st' := [.int (iI (((mPuts (vS (vS (vS V 0 0 0) 4 (V 2 0).toNat (-1)) 5 (V 2 0).toNat (-1)) y t (V 2 0)) 2 0) + 1)), .ref am]) (by simp only [iI_add, iI_sub, iI_mul, iI_neg]) (by simp only [iI_add, iI_sub, iI_mul, iI_neg]) ?_
          refine gm_put X (v := (((mPuts (vS (vS (vS V 0 0 0) 4 (V 2 0).toNat (-1)) 5 (V 2 0).toNat (-1)) y t (V 2 0)) 2 0) + 1)) rfl fX4_92 (by decide) rfl mSet2 ?_
          refine gm_run X 1 (pc1 := 95) (ls1 := [_, _, _]) (st1 := [_]) rfl ?_
          refine gm_get X rfl fX4_92 (v := .int (iI (((mPuts (vS (vS (vS V 0 0 0) 4 (V 2 0).toNat (-1)) 5 (V 2 0).toNat (-1)) y t (V 2 0)) 2 0) + 1))) rfl ?_
          refine gm_run X 2 (pc1 := 100) (ls1 := [_, _, _]) (st1 := [_]) rfl ?_
          refine gm_eq (ls' := [some (.ref am), some (.int (iI y)), some (.int (iI t))]) (st' := [.int (iI ((((mPuts (vS (vS (vS V 0 0 0) 4 (V 2 0).toNat (-1)) 5 (V 2 0).toNat (-1)) y t (V 2 0)) 2 0) + 1) - 1))]) (by simp only [iI_add, iI_sub, iI_mul, iI_neg]) (by simp only [iI_add, iI_sub, iI_mul, iI_neg]) ?_
          exact gm_ret X hQ rfl rfl (by unfold mWagon; rw [hT]; (repeat (first | rw [if_pos (by omega)] | rw [if_neg (by omega)])); all_goals (try rfl)) (by unfold mWagon; rw [hT]; (repeat (first | rw [if_pos (by omega)] | rw [if_neg (by omega)])); all_goals (try rfl))
        · have c49 : (0 : Int) < (0 : Int) := cNe b9 (by omega) (by omega)
          exact absurd c49 (by omega)
      · have c34 : (V 6 ((5 * y) + t).toNat) = 6 := cEq b9 (by omega) (by omega)
        refine gm_run X 2 (pc1 := 42) (ls1 := [_, _, _]) (st1 := [_, _]) rfl ?_
        refine gm_put X (v := 2) rfl fX4_80 (by decide) rfl mSet0 ?_
        have hT : mWagonT V y t = 2 := by unfold mWagonT; (repeat' split) <;> omega
        refine gm_run X 1 (pc1 := 46) (ls1 := [_, _, _]) (st1 := [_]) rfl ?_
        refine gm_get X rfl fX4_80 (v := .int (iI 2)) rfl ?_
        refine gm_br X (pc1 := 54) (st1 := []) rfl (fun b9 => ?_) (fun b9 => ?_)
        · have c49 : (2 : Int) ≤ (0 : Int) := cLe b9 (by omega) (by omega)
          exact absurd c49 (by omega)
        · have c49 : (0 : Int) < (2 : Int) := cNe b9 (by omega) (by omega)
          refine gm_run X 1 (pc1 := 53) (ls1 := [_, _, _]) (st1 := [_]) rfl ?_
          exact gm_ret X hQ rfl rfl (by unfold mWagon; rw [hT]; (repeat (first | rw [if_pos (by omega)] | rw [if_neg (by omega)])); all_goals (try rfl)) (by unfold mWagon; rw [hT]; (repeat (first | rw [if_pos (by omega)] | rw [if_neg (by omega)])); all_goals (try rfl))
  · have c6 : ¬ (isTrk y t) := bI_f b9
    refine gm_run X 2 (pc1 := 42) (ls1 := [_, _, _]) (st1 := [_, _]) rfl ?_
    refine gm_put X (v := 1) rfl fX4_80 (by decide) rfl mSet0 ?_
    have hT : mWagonT V y t = 1 := by unfold mWagonT; (repeat' split) <;> omega
    refine gm_run X 1 (pc1 := 46) (ls1 := [_, _, _]) (st1 := [_]) rfl ?_
    refine gm_get X rfl fX4_80 (v := .int (iI 1)) rfl ?_
    refine gm_br X (pc1 := 54) (st1 := []) rfl (fun b9 => ?_) (fun b9 => ?_)
    · have c49 : (1 : Int) ≤ (0 : Int) := cLe b9 (by omega) (by omega)
      exact absurd c49 (by omega)
    · have c49 : (0 : Int) < (1 : Int) := cNe b9 (by omega) (by omega)
      refine gm_run X 1 (pc1 := 53) (ls1 := [_, _, _]) (st1 := [_]) rfl ?_
      exact gm_ret X hQ rfl rfl (by unfold mWagon; rw [hT]; (repeat (first | rw [if_pos (by omega)] | rw [if_neg (by omega)])); all_goals (try rfl)) (by unfold mWagon; rw [hT]; (repeat (first | rw [if_pos (by omega)] | rw [if_neg (by omega)])); all_goals (try rfl))
set_option maxHeartbeats 1000000 in
theorem mc_wash (l : Launch) (EV : gEV) (am : Nat) (ad : Nat → Nat) {V : gV} {y : Int} (hy : inR y) (hI : mI V) : MC l yX4_wash cX4_wash 5 (some .int) 6 EV am ad [.int (iI y)] V (some (.int (iI (mWash V y).1))) ((mWash V y).2) := by
  intro M0 hM0
  refine g_body tbX4_wash tkX4_wash (by decide) (by intro v hv; simp only [List.mem_cons, List.not_mem_nil, or_false] at hv; rcases hv with rfl | rfl <;> rfl) (Nat.le_of_ble_eq_true rfl) (fun z Q X hl hR hQ hE => ?_)
  subst hl
  refine (?_ : gMd z _ EV Q M0 am ad V 0 [some (.ref am), some (.int (iI y)), none, none, none] []) M0 hM0 gFr.rf
  have hs := mIs hI
  refine gm_run X 2 (pc1 := 2) (ls1 := [_, _, _, _, _]) (st1 := [_, _]) rfl ?_
  refine gm_callS X rfl mX4_88 (fun M => mc_isYard z.2.1 EV M (y := y) (by omega)) rfl rfl (Nat.le_of_ble_eq_true rfl) (gFit.of hR (by decide) (by decide) (by decide)) ?_
  refine gm_eq (st' := [.int (iI (bI (isYd y))), .ref am]) rfl rfl ?_
  refine gm_br X (pc1 := 12) (st1 := [_]) rfl (fun b9 => ?_) (fun b9 => ?_)
  · have c5 : isYd y := bI_t b9
    refine gm_run X 1 (pc1 := 13) (ls1 := [_, _, _, _, _]) (st1 := [_, _]) rfl ?_
    refine gm_get X rfl fX4_19 (v := .ref (ad 6)) rfl ?_
    refine gm_run X 3 (pc1 := 19) (ls1 := [_, _, _, _, _]) (st1 := [_, _, _]) rfl ?_
    refine gm_eq (ls' := [some (.ref am), some (.int (iI y)), none, none, none]) (st' := [.int (iI (5 * y)), .ref (ad 6), .ref am]) (by simp only [iI_add, iI_sub, iI_mul, iI_neg]) (by simp only [iI_add, iI_sub, iI_mul, iI_neg]) ?_
    refine gm_ald X 6 (x := (5 * y)) (v := (V 6 (5 * y).toNat)) rfl rfl (by decide) (by show (0:Int) ≤ (5 * y) ∧ (5 * y) < 15; omega) (rfl) ?_
    have b19 := mI6 hI (j := (5 * y)) (by omega) (by omega)
    refine gm_br X (pc1 := 27) (st1 := [_]) rfl (fun b9 => ?_) (fun b9 => ?_)
    · have c20 : ¬ (V 6 (5 * y).toNat) = 0 := cNq b9 (by omega) (by omega)
      refine gm_run X 1 (pc1 := 28) (ls1 := [_, _, _, _, _]) (st1 := [_, _]) rfl ?_
      refine gm_put X (v := 0) rfl fX4_80 (by decide) rfl mSet0 ?_
      have hT : mWashT V y = 0 := by unfold mWashT; (repeat' split) <;> omega
      refine gm_run X 1 (pc1 := 32) (ls1 := [_, _, _, _, _]) (st1 := [_]) rfl ?_
      refine gm_get X rfl fX4_80 (v := .int (iI 0)) rfl ?_
      refine gm_br X (pc1 := 40) (st1 := []) rfl (fun b9 => ?_) (fun b9 => ?_)
      · have c35 : (0 : Int) ≤ (0 : Int) := cLe b9 (by omega) (by omega)
        refine gm_run X 5 (pc1 := 45) (ls1 := [_, _, _, _, _]) (st1 := [_]) rfl ?_
        refine gm_eq (ls' := [some (.ref am), some (.int (iI y)), some (.int (iI (5 * y))), none, none]) (st' := [.ref am]) (by simp only [iI_add, iI_sub, iI_mul, iI_neg]) (by simp only [iI_add, iI_sub, iI_mul, iI_neg]) ?_
        refine gm_get X rfl fX4_22 (v := .ref (ad 7)) rfl ?_
        refine gm_run X 4 (pc1 := 53) (ls1 := [_, _, _, _, _]) (st1 := [_, _, _]) rfl ?_
        refine gm_eq (ls' := [some (.ref am), some (.int (iI y)), some (.int (iI (5 * y))), none, none]) (st' := [.ref am, .int (iI (6 * (5 * y))), .ref (ad 7)]) (by simp only [iI_add, iI_sub, iI_mul, iI_neg]) (by simp only [iI_add, iI_sub, iI_mul, iI_neg]) ?_
        refine gm_get X rfl fX4_19 (v := .ref (ad 6)) rfl ?_
        refine gm_run X 1 (pc1 := 57) (ls1 := [_, _, _, _, _]) (st1 := [_, _, _, _]) rfl ?_
        refine gm_ald X 6 (x := (5 * y)) (v := (V 6 (5 * y).toNat)) rfl rfl (by decide) (by show (0:Int) ≤ (5 * y) ∧ (5 * y) < 15; omega) (rfl) ?_
        have b57 := mI6 hI (j := (5 * y)) (by omega) (by omega)
        refine gm_run X 3 (pc1 := 61) (ls1 := [_, _, _, _, _]) (st1 := [_, _]) rfl ?_
        refine gm_eq (ls' := [some (.ref am), some (.int (iI y)), some (.int (iI (5 * y))), none, none]) (st' := [.int (iI (((6 * (5 * y)) + (V 6 (5 * y).toNat)) - 1)), .ref (ad 7)]) (by simp only [iI_add, iI_sub, iI_mul, iI_neg]) (by simp only [iI_add, iI_sub, iI_mul, iI_neg]) ?_
        have b61 := mI7 hI (a := 5 * y) (k := V 6 (5 * y).toNat - 1) (by omega) (by omega) (by omega) (by omega)
        rw [show 6 * (5 * y) + (V 6 (5 * y).toNat - 1) = 6 * (5 * y) + V 6 (5 * y).toNat - 1 by omega] at b61
        refine gm_ald X 7 (x := (((6 * (5 * y)) + (V 6 (5 * y).toNat)) - 1)) (v := (V 7 (((6 * (5 * y)) + (V 6 (5 * y).toNat)) - 1).toNat)) rfl rfl (by decide) (by show (0:Int) ≤ (((6 * (5 * y)) + (V 6 (5 * y).toNat)) - 1) ∧ (((6 * (5 * y)) + (V 6 (5 * y).toNat)) - 1) < 90; omega) (rfl) ?_
        refine gm_run X 2 (pc1 := 64) (ls1 := [_, _, _, _, _]) (st1 := [_]) rfl ?_
        refine gm_get X rfl fX4_13 (v := .ref (ad 4)) rfl ?_
        refine gm_run X 1 (pc1 := 68) (ls1 := [_, _, _, _, _]) (st1 := [_, _]) rfl ?_
        refine gm_ald X 4 (x := (V 7 (((6 * (5 * y)) + (V 6 (5 * y).toNat)) - 1).toNat)) (v := (V 4 (V 7 (((6 * (5 * y)) + (V 6 (5 * y).toNat)) - 1).toNat).toNat)) rfl rfl (by decide) (by show (0:Int) ≤ (V 7 (((6 * (5 * y)) + (V 6 (5 * y).toNat)) - 1).toNat) ∧ (V 7 (((6 * (5 * y)) + (V 6 (5 * y).toNat)) - 1).toNat) < 30; omega) (rfl) ?_
        have b68 := mI4 hI (j := (V 7 (((6 * (5 * y)) + (V 6 (5 * y).toNat)) - 1).toNat)) (by omega) (by omega)
        refine gm_run X 2 (pc1 := 72) (ls1 := [_, _, _, _, _]) (st1 := [_]) rfl ?_
        refine gm_get X rfl fX4_13 (v := .ref (ad 4)) rfl ?_
        refine gm_run X 2 (pc1 := 77) (ls1 := [_, _, _, _, _]) (st1 := [_, _, _]) rfl ?_
        refine gm_ast X 4 (x := (V 7 (((6 * (5 * y)) + (V 6 (5 * y).toNat)) - 1).toNat)) (v := (-1)) rfl rfl (by decide) (by show (0:Int) ≤ (V 7 (((6 * (5 * y)) + (V 6 (5 * y).toNat)) - 1).toNat) ∧ (V 7 (((6 * (5 * y)) + (V 6 (5 * y).toNat)) - 1).toNat) < 30; omega) ?_
        refine gm_run X 1 (pc1 := 80) (ls1 := [_, _, _, _, _]) (st1 := [_]) rfl ?_
        exact gm_ret X hQ rfl rfl (by unfold mWash; rw [hT]; (repeat (first | rw [if_pos (by omega)] | rw [if_neg (by omega)])); all_goals (try rfl)) (by unfold mWash; rw [hT]; (repeat (first | rw [if_pos (by omega)] | rw [if_neg (by omega)])); all_goals (try rfl))
      · have c35 : (0 : Int) < (0 : Int) := cNe b9 (by omega) (by omega)
        exact absurd c35 (by omega)
    · have c20 : (V 6 (5 * y).toNat) = 0 := cEq b9 (by omega) (by omega)
      refine gm_run X 2 (pc1 := 28) (ls1 := [_, _, _, _, _]) (st1 := [_, _]) rfl ?_
      refine gm_put X (v := 2) rfl fX4_80 (by decide) rfl mSet0 ?_
      have hT : mWashT V y = 2 := by unfold mWashT; (repeat' split) <;> omega
      refine gm_run X 1 (pc1 := 32) (ls1 := [_, _, _, _, _]) (st1 := [_]) rfl ?_
      refine gm_get X rfl fX4_80 (v := .int (iI 2)) rfl ?_
      refine gm_br X (pc1 := 40) (st1 := []) rfl (fun b9 => ?_) (fun b9 => ?_)
      · have c35 : (2 : Int) ≤ (0 : Int) := cLe b9 (by omega) (by omega)
        exact absurd c35 (by omega)
      · have c35 : (0 : Int) < (2 : Int) := cNe b9 (by omega) (by omega)
        refine gm_run X 1 (pc1 := 39) (ls1 := [_, _, _, _, _]) (st1 := [_]) rfl ?_
        exact gm_ret X hQ rfl rfl (by unfold mWash; rw [hT]; (repeat (first | rw [if_pos (by omega)] | rw [if_neg (by omega)])); all_goals (try rfl)) (by unfold mWash; rw [hT]; (repeat (first | rw [if_pos (by omega)] | rw [if_neg (by omega)])); all_goals (try rfl))
  · have c5 : ¬ (isYd y) := bI_f b9
    refine gm_run X 2 (pc1 := 28) (ls1 := [_, _, _, _, _]) (st1 := [_, _]) rfl ?_
    refine gm_put X (v := 1) rfl fX4_80 (by decide) rfl mSet0 ?_
    have hT : mWashT V y = 1 := by unfold mWashT; (repeat' split) <;> omega
    refine gm_run X 1 (pc1 := 32) (ls1 := [_, _, _, _, _]) (st1 := [_]) rfl ?_
    refine gm_get X rfl fX4_80 (v := .int (iI 1)) rfl ?_
    refine gm_br X (pc1 := 40) (st1 := []) rfl (fun b9 => ?_) (fun b9 => ?_)
    · have c35 : (1 : Int) ≤ (0 : Int) := cLe b9 (by omega) (by omega)
      exact absurd c35 (by omega)
    · have c35 : (0 : Int) < (1 : Int) := cNe b9 (by omega) (by omega)
      refine gm_run X 1 (pc1 := 39) (ls1 := [_, _, _, _, _]) (st1 := [_]) rfl ?_
      exact gm_ret X hQ rfl rfl (by unfold mWash; rw [hT]; (repeat (first | rw [if_pos (by omega)] | rw [if_neg (by omega)])); all_goals (try rfl)) (by unfold mWash; rw [hT]; (repeat (first | rw [if_pos (by omega)] | rw [if_neg (by omega)])); all_goals (try rfl))
set_option maxHeartbeats 1000000 in
theorem mc_on (l : Launch) (EV : gEV) (am : Nat) (ad : Nat → Nat) {V : gV} {y : Int} (hy : inR y) {t : Int} (ht : inR t) (hI : mI V) : MC l yX4_on cX4_on 3 (some .int) 6 EV am ad [.int (iI y), .int (iI t)] V (some (.int (iI (mOn V y t).1))) ((mOn V y t).2) := by
  intro M0 hM0
  refine g_body tbX4_on tkX4_on (by decide) (by intro v hv; simp only [List.mem_cons, List.not_mem_nil, or_false] at hv; rcases hv with rfl | rfl | rfl <;> rfl) (Nat.le_of_ble_eq_true rfl) (fun z Q X hl hR hQ hE => ?_)
  subst hl
  refine (?_ : gMd z _ EV Q M0 am ad V 0 [some (.ref am), some (.int (iI y)), some (.int (iI t))] []) M0 hM0 gFr.rf
  have hs := mIs hI
  refine gm_run X 3 (pc1 := 3) (ls1 := [_, _, _]) (st1 := [_, _, _]) rfl ?_
  refine gm_callS X rfl mX4_95 (fun M => mc_isTrack z.2.1 EV M (y := y) (t := t) (by omega) (by omega)) rfl rfl (Nat.le_of_ble_eq_true rfl) (gFit.of hR (by decide) (by decide) (by decide)) ?_
  refine gm_eq (st' := [.int (iI (bI (isTrk y t))), .ref am]) rfl rfl ?_
  refine gm_br X (pc1 := 13) (st1 := [_]) rfl (fun b9 => ?_) (fun b9 => ?_)
  · have c6 : ¬ (isTrk y t) := bI_f b9
    refine gm_run X 1 (pc1 := 14) (ls1 := [_, _, _]) (st1 := [_, _]) rfl ?_
    refine gm_put X (v := 1) rfl fX4_80 (by decide) rfl mSet0 ?_
    have hT : mOnT V y t = 1 := by unfold mOnT; (repeat' split) <;> omega
    refine gm_run X 1 (pc1 := 18) (ls1 := [_, _, _]) (st1 := [_]) rfl ?_
    refine gm_get X rfl fX4_80 (v := .int (iI 1)) rfl ?_
    refine gm_br X (pc1 := 28) (st1 := []) rfl (fun b9 => ?_) (fun b9 => ?_)
    · have c21 : (1 : Int) ≤ (0 : Int) := cLe b9 (by omega) (by omega)
      exact absurd c21 (by omega)
    · have c21 : (0 : Int) < (1 : Int) := cNe b9 (by omega) (by omega)
      refine gm_run X 2 (pc1 := 38) (ls1 := [_, _, _]) (st1 := [_]) rfl ?_
      exact gm_ret X hQ rfl rfl (by unfold mOn; rw [hT]; (repeat (first | rw [if_pos (by omega)] | rw [if_neg (by omega)])); all_goals (try rfl)) (by unfold mOn; rw [hT]; (repeat (first | rw [if_pos (by omega)] | rw [if_neg (by omega)])); all_goals (try rfl))
  · have c6 : isTrk y t := bI_t b9
    refine gm_run X 2 (pc1 := 14) (ls1 := [_, _, _]) (st1 := [_, _]) rfl ?_
    refine gm_put X (v := 0) rfl fX4_80 (by decide) rfl mSet0 ?_
    have hT : mOnT V y t = 0 := by unfold mOnT; (repeat' split) <;> omega
    refine gm_run X 1 (pc1 := 18) (ls1 := [_, _, _]) (st1 := [_]) rfl ?_
    refine gm_get X rfl fX4_80 (v := .int (iI 0)) rfl ?_
    refine gm_br X (pc1 := 28) (st1 := []) rfl (fun b9 => ?_) (fun b9 => ?_)
    · have c21 : (0 : Int) ≤ (0 : Int) := cLe b9 (by omega) (by omega)
      refine gm_run X 1 (pc1 := 29) (ls1 := [_, _, _]) (st1 := [_]) rfl ?_
      refine gm_get X rfl fX4_19 (v := .ref (ad 6)) rfl ?_
      refine gm_run X 5 (pc1 := 37) (ls1 := [_, _, _]) (st1 := [_, _]) rfl ?_
      refine gm_eq (ls' := [some (.ref am), some (.int (iI y)), some (.int (iI t))]) (st' := [.int (iI ((5 * y) + t)), .ref (ad 6)]) (by simp only [iI_add, iI_sub, iI_mul, iI_neg]) (by simp only [iI_add, iI_sub, iI_mul, iI_neg]) ?_
      refine gm_ald X 6 (x := ((5 * y) + t)) (v := (V 6 ((5 * y) + t).toNat)) rfl rfl (by decide) (by show (0:Int) ≤ ((5 * y) + t) ∧ ((5 * y) + t) < 15; omega) (rfl) ?_
      have b37 := mI6 hI (j := ((5 * y) + t)) (by omega) (by omega)
      exact gm_ret X hQ rfl rfl (by unfold mOn; rw [hT]; (repeat (first | rw [if_pos (by omega)] | rw [if_neg (by omega)])); all_goals (try rfl)) (by unfold mOn; rw [hT]; (repeat (first | rw [if_pos (by omega)] | rw [if_neg (by omega)])); all_goals (try rfl))
    · have c21 : (0 : Int) < (0 : Int) := cNe b9 (by omega) (by omega)
      exact absurd c21 (by omega)
set_option maxHeartbeats 1000000 in
theorem mc_wagonAt (l : Launch) (EV : gEV) (am : Nat) (ad : Nat → Nat) {V : gV} {y : Int} (hy : inR y) {t : Int} (ht : inR t) {p : Int} (hp : inR p) (hI : mI V) : MC l yX4_wagonAt cX4_wagonAt 4 (some .int) 6 EV am ad [.int (iI y), .int (iI t), .int (iI p)] V (some (.int (iI (mAt V y t p).1))) ((mAt V y t p).2) := by
  intro M0 hM0
  refine g_body tbX4_wagonAt tkX4_wagonAt (by decide) (by intro v hv; simp only [List.mem_cons, List.not_mem_nil, or_false] at hv; rcases hv with rfl | rfl | rfl | rfl <;> rfl) (Nat.le_of_ble_eq_true rfl) (fun z Q X hl hR hQ hE => ?_)
  subst hl
  refine (?_ : gMd z _ EV Q M0 am ad V 0 [some (.ref am), some (.int (iI y)), some (.int (iI t)), some (.int (iI p))] []) M0 hM0 gFr.rf
  have hs := mIs hI
  refine gm_run X 3 (pc1 := 3) (ls1 := [_, _, _, _]) (st1 := [_, _, _]) rfl ?_
  refine gm_callS X rfl mX4_95 (fun M => mc_isTrack z.2.1 EV M (y := y) (t := t) (by omega) (by omega)) rfl rfl (Nat.le_of_ble_eq_true rfl) (gFit.of hR (by decide) (by decide) (by decide)) ?_
  refine gm_eq (st' := [.int (iI (bI (isTrk y t))), .ref am]) rfl rfl ?_
  refine gm_br X (pc1 := 13) (st1 := [_]) rfl (fun b9 => ?_) (fun b9 => ?_)
  · have c6 : isTrk y t := bI_t b9
    refine gm_run X 3 (pc1 := 16) (ls1 := [_, _, _, _]) (st1 := [_, _, _, _]) rfl ?_
    refine gm_get X rfl fX4_19 (v := .ref (ad 6)) rfl ?_
    refine gm_run X 5 (pc1 := 24) (ls1 := [_, _, _, _]) (st1 := [_, _, _, _, _]) rfl ?_
    refine gm_eq (ls' := [some (.ref am), some (.int (iI y)), some (.int (iI t)), some (.int (iI p))]) (st' := [.int (iI ((5 * y) + t)), .ref (ad 6), .int (iI 0), .int (iI p), .ref am]) (by simp only [iI_add, iI_sub, iI_mul, iI_neg]) (by simp only [iI_add, iI_sub, iI_mul, iI_neg]) ?_
    refine gm_ald X 6 (x := ((5 * y) + t)) (v := (V 6 ((5 * y) + t).toNat)) rfl rfl (by decide) (by show (0:Int) ≤ ((5 * y) + t) ∧ ((5 * y) + t) < 15; omega) (rfl) ?_
    have b24 := mI6 hI (j := ((5 * y) + t)) (by omega) (by omega)
    refine gm_run X 2 (pc1 := 27) (ls1 := [_, _, _, _]) (st1 := [_, _, _, _]) rfl ?_
    refine gm_eq (ls' := [some (.ref am), some (.int (iI y)), some (.int (iI t)), some (.int (iI p))]) (st' := [.int (iI ((V 6 ((5 * y) + t).toNat) - 1)), .int (iI 0), .int (iI p), .ref am]) (by simp only [iI_add, iI_sub, iI_mul, iI_neg]) (by simp only [iI_add, iI_sub, iI_mul, iI_neg]) ?_
    refine gm_callS X rfl mX4_84 (fun M => mc_in z.2.1 EV M (v := p) (lo := 0) (hi := ((V 6 ((5 * y) + t).toNat) - 1)) (by omega) (by omega) (by omega)) rfl rfl (Nat.le_of_ble_eq_true rfl) (gFit.of hR (by decide) (by decide) (by decide)) ?_
    refine gm_eq (st' := [.int (iI (bI (0 ≤ p ∧ p ≤ ((V 6 ((5 * y) + t).toNat) - 1)))), .ref am]) rfl rfl ?_
    refine gm_br X (pc1 := 37) (st1 := [_]) rfl (fun b9 => ?_) (fun b9 => ?_)
    · have c30 : ¬ (0 ≤ p ∧ p ≤ ((V 6 ((5 * y) + t).toNat) - 1)) := bI_f b9
      refine gm_run X 1 (pc1 := 38) (ls1 := [_, _, _, _]) (st1 := [_, _]) rfl ?_
      refine gm_put X (v := 2) rfl fX4_80 (by decide) rfl mSet0 ?_
      have hT : mAtT V y t p = 2 := by unfold mAtT; (repeat' split) <;> omega
      refine gm_run X 1 (pc1 := 42) (ls1 := [_, _, _, _]) (st1 := [_]) rfl ?_
      refine gm_get X rfl fX4_80 (v := .int (iI 2)) rfl ?_
      refine gm_br X (pc1 := 52) (st1 := []) rfl (fun b9 => ?_) (fun b9 => ?_)
      · have c45 : (2 : Int) ≤ (0 : Int) := cLe b9 (by omega) (by omega)
        exact absurd c45 (by omega)
      · have c45 : (0 : Int) < (2 : Int) := cNe b9 (by omega) (by omega)
        refine gm_run X 2 (pc1 := 67) (ls1 := [_, _, _, _]) (st1 := [_]) rfl ?_
        exact gm_ret X hQ rfl rfl (by unfold mAt; rw [hT]; (repeat (first | rw [if_pos (by omega)] | rw [if_neg (by omega)])); all_goals (try rfl)) (by unfold mAt; rw [hT]; (repeat (first | rw [if_pos (by omega)] | rw [if_neg (by omega)])); all_goals (try rfl))
    · have c30 : 0 ≤ p ∧ p ≤ ((V 6 ((5 * y) + t).toNat) - 1) := bI_t b9
      refine gm_run X 2 (pc1 := 38) (ls1 := [_, _, _, _]) (st1 := [_, _]) rfl ?_
      refine gm_put X (v := 0) rfl fX4_80 (by decide) rfl mSet0 ?_
      have hT : mAtT V y t p = 0 := by unfold mAtT; (repeat' split) <;> omega
      refine gm_run X 1 (pc1 := 42) (ls1 := [_, _, _, _]) (st1 := [_]) rfl ?_
      refine gm_get X rfl fX4_80 (v := .int (iI 0)) rfl ?_
      refine gm_br X (pc1 := 52) (st1 := []) rfl (fun b9 => ?_) (fun b9 => ?_)
      · have c45 : (0 : Int) ≤ (0 : Int) := cLe b9 (by omega) (by omega)
        refine gm_run X 1 (pc1 := 53) (ls1 := [_, _, _, _]) (st1 := [_]) rfl ?_
        refine gm_get X rfl fX4_22 (v := .ref (ad 7)) rfl ?_
        refine gm_run X 9 (pc1 := 66) (ls1 := [_, _, _, _]) (st1 := [_, _]) rfl ?_
        refine gm_eq (ls' := [some (.ref am), some (.int (iI y)), some (.int (iI t)), some (.int (iI p))]) (st' := [.int (iI ((6 * ((5 * y) + t)) + p)), .ref (ad 7)]) (by simp only [iI_add, iI_sub, iI_mul, iI_neg]) (by simp only [iI_add, iI_sub, iI_mul, iI_neg]) ?_
        refine gm_ald X 7 (x := ((6 * ((5 * y) + t)) + p)) (v := (V 7 ((6 * ((5 * y) + t)) + p).toNat)) rfl rfl (by decide) (by show (0:Int) ≤ ((6 * ((5 * y) + t)) + p) ∧ ((6 * ((5 * y) + t)) + p) < 90; omega) (rfl) ?_
        have b66 := mI7 hI (a := ((5 * y) + t)) (k := p) (by omega) (by omega) (by omega) (by omega)
        exact gm_ret X hQ rfl rfl (by unfold mAt; rw [hT]; (repeat (first | rw [if_pos (by omega)] | rw [if_neg (by omega)])); all_goals (try rfl)) (by unfold mAt; rw [hT]; (repeat (first | rw [if_pos (by omega)] | rw [if_neg (by omega)])); all_goals (try rfl))
      · have c45 : (0 : Int) < (0 : Int) := cNe b9 (by omega) (by omega)
        exact absurd c45 (by omega)
  · have c6 : ¬ (isTrk y t) := bI_f b9
    refine gm_run X 2 (pc1 := 38) (ls1 := [_, _, _, _]) (st1 := [_, _]) rfl ?_
    refine gm_put X (v := 1) rfl fX4_80 (by decide) rfl mSet0 ?_
    have hT : mAtT V y t p = 1 := by unfold mAtT; (repeat' split) <;> omega
    refine gm_run X 1 (pc1 := 42) (ls1 := [_, _, _, _]) (st1 := [_]) rfl ?_
    refine gm_get X rfl fX4_80 (v := .int (iI 1)) rfl ?_
    refine gm_br X (pc1 := 52) (st1 := []) rfl (fun b9 => ?_) (fun b9 => ?_)
    · have c45 : (1 : Int) ≤ (0 : Int) := cLe b9 (by omega) (by omega)
      exact absurd c45 (by omega)
    · have c45 : (0 : Int) < (1 : Int) := cNe b9 (by omega) (by omega)
      refine gm_run X 2 (pc1 := 67) (ls1 := [_, _, _, _]) (st1 := [_]) rfl ?_
      exact gm_ret X hQ rfl rfl (by unfold mAt; rw [hT]; (repeat (first | rw [if_pos (by omega)] | rw [if_neg (by omega)])); all_goals (try rfl)) (by unfold mAt; rw [hT]; (repeat (first | rw [if_pos (by omega)] | rw [if_neg (by omega)])); all_goals (try rfl))
set_option maxHeartbeats 1000000 in
theorem mc_at (l : Launch) (EV : gEV) (am : Nat) (ad : Nat → Nat) {V : gV} {y : Int} (hy : inR y) {t : Int} (ht : inR t) {p : Int} (hp : inR p) (hI : mI V) : MC l yX4_at cX4_at 4 (some .int) 7 EV am ad [.int (iI y), .int (iI t), .int (iI p)] V (some (.int (iI (mAt V y t p).1))) ((mAt V y t p).2) := by
  intro M0 hM0
  refine g_body tbX4_at tkX4_at (by decide) (by intro v hv; simp only [List.mem_cons, List.not_mem_nil, or_false] at hv; rcases hv with rfl | rfl | rfl | rfl <;> rfl) (Nat.le_of_ble_eq_true rfl) (fun z Q X hl hR hQ hE => ?_)
  subst hl
  refine (?_ : gMd z _ EV Q M0 am ad V 0 [some (.ref am), some (.int (iI y)), some (.int (iI t)), some (.int (iI p))] []) M0 hM0 gFr.rf
  refine gm_run X 4 (pc1 := 4) (ls1 := [_, _, _, _]) (st1 := [_, _, _, _]) rfl ?_
  refine gm_callV X rfl mX4_106 (mc_wagonAt z.2.1 EV am ad (y := y) (t := t) (p := p) (by omega) (by omega) (by omega) hI) rfl rfl (Nat.le_of_ble_eq_true rfl) (gFit.of hR (by decide) (by decide) (by decide)) ?_
  refine gm_eq (st' := [.int (iI ((mAt V y t p).1))]) rfl rfl ?_
  exact gm_ret X hQ rfl rfl rfl rfl
set_option maxHeartbeats 1000000 in
theorem mc_atByReplay (l : Launch) (EV : gEV) (am : Nat) (ad : Nat → Nat) {V : gV} {y : Int} (hy : inR y) {t : Int} (ht : inR t) {p : Int} (hp : inR p) (hI : mI V) : MC l yX4_atByReplay cX4_atByReplay 4 (some .int) 7 EV am ad [.int (iI y), .int (iI t), .int (iI p)] V (some (.int (iI (mAt V y t p).1))) ((mAt V y t p).2) := by
  intro M0 hM0
  refine g_body tbX4_atByReplay tkX4_atByReplay (by decide) (by intro v hv; simp only [List.mem_cons, List.not_mem_nil, or_false] at hv; rcases hv with rfl | rfl | rfl | rfl <;> rfl) (Nat.le_of_ble_eq_true rfl) (fun z Q X hl hR hQ hE => ?_)
  subst hl
  refine (?_ : gMd z _ EV Q M0 am ad V 0 [some (.ref am), some (.int (iI y)), some (.int (iI t)), some (.int (iI p))] []) M0 hM0 gFr.rf
  refine gm_run X 4 (pc1 := 4) (ls1 := [_, _, _, _]) (st1 := [_, _, _, _]) rfl ?_
  refine gm_callV X rfl mX4_106 (mc_wagonAt z.2.1 EV am ad (y := y) (t := t) (p := p) (by omega) (by omega) (by omega) hI) rfl rfl (Nat.le_of_ble_eq_true rfl) (gFit.of hR (by decide) (by decide) (by decide)) ?_
  refine gm_eq (st' := [.int (iI ((mAt V y t p).1))]) rfl rfl ?_
  exact gm_ret X hQ rfl rfl rfl rfl
set_option maxHeartbeats 1000000 in
theorem mc_asksWagon (l : Launch) (EV : gEV) (am : Nat) (ad : Nat → Nat) {V : gV} {w : Int} (hw : inR w) (hI : mI V) : MC l yX4_asksWagon cX4_asksWagon 2 (some .boolean) 5 EV am ad [.int (iI w)] V (some (.int (iI (bI (isWg V w))))) (mAsk0 V (isWg V w)) := by
  intro M0 hM0
  refine g_body tbX4_asksWagon tkX4_asksWagon (by decide) (by intro v hv; simp only [List.mem_cons, List.not_mem_nil, or_false] at hv; rcases hv with rfl | rfl <;> rfl) (Nat.le_of_ble_eq_true rfl) (fun z Q X hl hR hQ hE => ?_)
  subst hl
  refine (?_ : gMd z _ EV Q M0 am ad V 0 [some (.ref am), some (.int (iI w))] []) M0 hM0 gFr.rf
  have hs := mIs hI
  refine gm_run X 3 (pc1 := 3) (ls1 := [_, _]) (st1 := [_, _, _]) rfl ?_
  refine gm_callV X rfl mX4_110 (mc_isWagon z.2.1 EV am ad (w := w) (by omega) hI) rfl rfl (Nat.le_of_ble_eq_true rfl) (gFit.of hR (by decide) (by decide) (by decide)) ?_
  refine gm_eq (st' := [.int (iI (bI (isWg V w))), .ref am]) rfl rfl ?_
  refine gm_br X (pc1 := 13) (st1 := [_]) rfl (fun b9 => ?_) (fun b9 => ?_)
  · have c6 : ¬ (isWg V w) := bI_f b9
    refine gm_run X 1 (pc1 := 14) (ls1 := [_, _]) (st1 := [_, _]) rfl ?_
    refine gm_put X (v := 1) rfl fX4_80 (by decide) rfl mSet0 ?_
    refine gm_run X 1 (pc1 := 18) (ls1 := [_, _]) (st1 := [_]) rfl ?_
    refine gm_get X rfl fX4_80 (v := .int (iI 1)) rfl ?_
    refine gm_br X (pc1 := 28) (st1 := []) rfl (fun b9 => ?_) (fun b9 => ?_)
    · have c21 : ¬ (1 : Int) = (0 : Int) := cNq b9 (by omega) (by omega)
      refine gm_run X 1 (pc1 := 29) (ls1 := [_, _]) (st1 := [_]) rfl ?_
      exact gm_zret X hQ rfl rfl rfl (by rw [bI_0 (p := isWg V w) (by omega)]) (by unfold mAsk0; rw [bI_1 (p := ¬ isWg V w) (by omega)])
    · have c21 : (1 : Int) = (0 : Int) := cEq b9 (by omega) (by omega)
      exact absurd c21 (by omega)
  · have c6 : isWg V w := bI_t b9
    refine gm_run X 2 (pc1 := 14) (ls1 := [_, _]) (st1 := [_, _]) rfl ?_
    refine gm_put X (v := 0) rfl fX4_80 (by decide) rfl mSet0 ?_
    refine gm_run X 1 (pc1 := 18) (ls1 := [_, _]) (st1 := [_]) rfl ?_
    refine gm_get X rfl fX4_80 (v := .int (iI 0)) rfl ?_
    refine gm_br X (pc1 := 28) (st1 := []) rfl (fun b9 => ?_) (fun b9 => ?_)
    · have c21 : ¬ (0 : Int) = (0 : Int) := cNq b9 (by omega) (by omega)
      exact absurd c21 (by omega)
    · have c21 : (0 : Int) = (0 : Int) := cEq b9 (by omega) (by omega)
      refine gm_run X 2 (pc1 := 29) (ls1 := [_, _]) (st1 := [_]) rfl ?_
      exact gm_zret X hQ rfl rfl rfl (by rw [bI_1 (p := isWg V w) (by omega)]) (by unfold mAsk0; rw [bI_0 (p := ¬ isWg V w) (by omega)])
set_option maxHeartbeats 1000000 in
theorem mc_asksBooking (l : Launch) (EV : gEV) (am : Nat) (ad : Nat → Nat) {V : gV} {w : Int} (hw : inR w) (hI : mI V) : MC l yX4_asksBooking cX4_asksBooking 2 (some .boolean) 5 EV am ad [.int (iI w)] V (some (.int (iI (bI (isBk V w))))) (mAsk0 V (isBk V w)) := by
  intro M0 hM0
  refine g_body tbX4_asksBooking tkX4_asksBooking (by decide) (by intro v hv; simp only [List.mem_cons, List.not_mem_nil, or_false] at hv; rcases hv with rfl | rfl <;> rfl) (Nat.le_of_ble_eq_true rfl) (fun z Q X hl hR hQ hE => ?_)
  subst hl
  refine (?_ : gMd z _ EV Q M0 am ad V 0 [some (.ref am), some (.int (iI w))] []) M0 hM0 gFr.rf
  have hs := mIs hI
  refine gm_run X 3 (pc1 := 3) (ls1 := [_, _]) (st1 := [_, _, _]) rfl ?_
  refine gm_callV X rfl mX4_158 (mc_isBooking z.2.1 EV am ad (w := w) (by omega) hI) rfl rfl (Nat.le_of_ble_eq_true rfl) (gFit.of hR (by decide) (by decide) (by decide)) ?_
  refine gm_eq (st' := [.int (iI (bI (isBk V w))), .ref am]) rfl rfl ?_
  refine gm_br X (pc1 := 13) (st1 := [_]) rfl (fun b9 => ?_) (fun b9 => ?_)
  · have c6 : ¬ (isBk V w) := bI_f b9
    refine gm_run X 1 (pc1 := 14) (ls1 := [_, _]) (st1 := [_, _]) rfl ?_
    refine gm_put X (v := 1) rfl fX4_80 (by decide) rfl mSet0 ?_
    refine gm_run X 1 (pc1 := 18) (ls1 := [_, _]) (st1 := [_]) rfl ?_
    refine gm_get X rfl fX4_80 (v := .int (iI 1)) rfl ?_
    refine gm_br X (pc1 := 28) (st1 := []) rfl (fun b9 => ?_) (fun b9 => ?_)
    · have c21 : ¬ (1 : Int) = (0 : Int) := cNq b9 (by omega) (by omega)
      refine gm_run X 1 (pc1 := 29) (ls1 := [_, _]) (st1 := [_]) rfl ?_
      exact gm_zret X hQ rfl rfl rfl (by rw [bI_0 (p := isBk V w) (by omega)]) (by unfold mAsk0; rw [bI_1 (p := ¬ isBk V w) (by omega)])
    · have c21 : (1 : Int) = (0 : Int) := cEq b9 (by omega) (by omega)
      exact absurd c21 (by omega)
  · have c6 : isBk V w := bI_t b9
    refine gm_run X 2 (pc1 := 14) (ls1 := [_, _]) (st1 := [_, _]) rfl ?_
    refine gm_put X (v := 0) rfl fX4_80 (by decide) rfl mSet0 ?_
    refine gm_run X 1 (pc1 := 18) (ls1 := [_, _]) (st1 := [_]) rfl ?_
    refine gm_get X rfl fX4_80 (v := .int (iI 0)) rfl ?_
    refine gm_br X (pc1 := 28) (st1 := []) rfl (fun b9 => ?_) (fun b9 => ?_)
    · have c21 : ¬ (0 : Int) = (0 : Int) := cNq b9 (by omega) (by omega)
      exact absurd c21 (by omega)
    · have c21 : (0 : Int) = (0 : Int) := cEq b9 (by omega) (by omega)
      refine gm_run X 2 (pc1 := 29) (ls1 := [_, _]) (st1 := [_]) rfl ?_
      exact gm_zret X hQ rfl rfl rfl (by rw [bI_1 (p := isBk V w) (by omega)]) (by unfold mAsk0; rw [bI_0 (p := ¬ isBk V w) (by omega)])
set_option maxHeartbeats 1000000 in
theorem mc_where (l : Launch) (EV : gEV) (am : Nat) (ad : Nat → Nat) {V : gV} {w : Int} (hw : inR w) (hI : mI V) : MC l yX4_where cX4_where 2 (some .int) 6 EV am ad [.int (iI w)] V (some (.int (iI (mWhere V w)))) (mAsk0 V (isWg V w)) := by
  intro M0 hM0
  refine g_body tbX4_where tkX4_where (by decide) (by intro v hv; simp only [List.mem_cons, List.not_mem_nil, or_false] at hv; rcases hv with rfl | rfl <;> rfl) (Nat.le_of_ble_eq_true rfl) (fun z Q X hl hR hQ hE => ?_)
  subst hl
  refine (?_ : gMd z _ EV Q M0 am ad V 0 [some (.ref am), some (.int (iI w))] []) M0 hM0 gFr.rf
  have hs := mIs hI
  refine gm_run X 2 (pc1 := 2) (ls1 := [_, _]) (st1 := [_, _]) rfl ?_
  refine gm_callV X rfl mX4_113 (mc_asksWagon z.2.1 EV am ad (w := w) (by omega) hI) rfl rfl (Nat.le_of_ble_eq_true rfl) (gFit.of hR (by decide) (by decide) (by decide)) ?_
  refine gm_eq (st' := [.int (iI (bI (isWg V w)))]) rfl rfl ?_
  refine gm_br X (pc1 := 17) (st1 := []) rfl (fun b9 => ?_) (fun b9 => ?_)
  · have c5 : ¬ (isWg V w) := bI_f b9
    refine gm_run X 1 (pc1 := 18) (ls1 := [_, _]) (st1 := [_]) rfl ?_
    exact gm_ret X hQ rfl rfl (by unfold mWhere; (repeat (first | rw [if_pos (by omega)] | rw [if_neg (by omega)])); all_goals (try rfl)) rfl
  · have c5 : isWg V w := bI_t b9
    refine gm_run X 1 (pc1 := 9) (ls1 := [_, _]) (st1 := [_]) rfl ?_
    refine gm_get X rfl fX4_7 (v := .ref (ad 3)) rfl ?_
    refine gm_run X 1 (pc1 := 13) (ls1 := [_, _]) (st1 := [_, _]) rfl ?_
    refine gm_ald X 3 (x := w) (v := (V 3 w.toNat)) rfl rfl (by decide) (by show (0:Int) ≤ w ∧ w < 30; omega) (rfl) ?_
    have b13 := mI3 hI (j := w) (by omega) (by omega)
    refine gm_run X 1 (pc1 := 18) (ls1 := [_, _]) (st1 := [_]) rfl ?_
    exact gm_ret X hQ rfl rfl (by unfold mWhere; (repeat (first | rw [if_pos (by omega)] | rw [if_neg (by omega)])); all_goals (try rfl)) rfl
set_option maxHeartbeats 1000000 in
theorem mc_carried (l : Launch) (EV : gEV) (am : Nat) (ad : Nat → Nat) {V : gV} {w : Int} (hw : inR w) (hI : mI V) : MC l yX4_carried cX4_carried 2 (some .int) 6 EV am ad [.int (iI w)] V (some (.int (iI (mCarried V w)))) (mAsk0 V (isWg V w)) := by
  intro M0 hM0
  refine g_body tbX4_carried tkX4_carried (by decide) (by intro v hv; simp only [List.mem_cons, List.not_mem_nil, or_false] at hv; rcases hv with rfl | rfl <;> rfl) (Nat.le_of_ble_eq_true rfl) (fun z Q X hl hR hQ hE => ?_)
  subst hl
  refine (?_ : gMd z _ EV Q M0 am ad V 0 [some (.ref am), some (.int (iI w))] []) M0 hM0 gFr.rf
  have hs := mIs hI
  refine gm_run X 2 (pc1 := 2) (ls1 := [_, _]) (st1 := [_, _]) rfl ?_
  refine gm_callV X rfl mX4_113 (mc_asksWagon z.2.1 EV am ad (w := w) (by omega) hI) rfl rfl (Nat.le_of_ble_eq_true rfl) (gFit.of hR (by decide) (by decide) (by decide)) ?_
  refine gm_eq (st' := [.int (iI (bI (isWg V w)))]) rfl rfl ?_
  refine gm_br X (pc1 := 17) (st1 := []) rfl (fun b9 => ?_) (fun b9 => ?_)
  · have c5 : ¬ (isWg V w) := bI_f b9
    refine gm_run X 1 (pc1 := 18) (ls1 := [_, _]) (st1 := [_]) rfl ?_
    exact gm_ret X hQ rfl rfl (by unfold mCarried; (repeat (first | rw [if_pos (by omega)] | rw [if_neg (by omega)])); all_goals (try rfl)) rfl
  · have c5 : isWg V w := bI_t b9
    refine gm_run X 1 (pc1 := 9) (ls1 := [_, _]) (st1 := [_]) rfl ?_
    refine gm_get X rfl fX4_13 (v := .ref (ad 4)) rfl ?_
    refine gm_run X 1 (pc1 := 13) (ls1 := [_, _]) (st1 := [_, _]) rfl ?_
    refine gm_ald X 4 (x := w) (v := (V 4 w.toNat)) rfl rfl (by decide) (by show (0:Int) ≤ w ∧ w < 30; omega) (rfl) ?_
    have b13 := mI4 hI (j := w) (by omega) (by omega)
    refine gm_run X 1 (pc1 := 18) (ls1 := [_, _]) (st1 := [_]) rfl ?_
    exact gm_ret X hQ rfl rfl (by unfold mCarried; (repeat (first | rw [if_pos (by omega)] | rw [if_neg (by omega)])); all_goals (try rfl)) rfl
set_option maxHeartbeats 1000000 in
theorem mc_state (l : Launch) (EV : gEV) (am : Nat) (ad : Nat → Nat) {V : gV} {w : Int} (hw : inR w) (hI : mI V) : MC l yX4_state cX4_state 2 (some .int) 6 EV am ad [.int (iI w)] V (some (.int (iI (mState V w)))) (mAsk0 V (isBk V w)) := by
  intro M0 hM0
  refine g_body tbX4_state tkX4_state (by decide) (by intro v hv; simp only [List.mem_cons, List.not_mem_nil, or_false] at hv; rcases hv with rfl | rfl <;> rfl) (Nat.le_of_ble_eq_true rfl) (fun z Q X hl hR hQ hE => ?_)
  subst hl
  refine (?_ : gMd z _ EV Q M0 am ad V 0 [some (.ref am), some (.int (iI w))] []) M0 hM0 gFr.rf
  have hs := mIs hI
  refine gm_run X 2 (pc1 := 2) (ls1 := [_, _]) (st1 := [_, _]) rfl ?_
  refine gm_callV X rfl mX4_174 (mc_asksBooking z.2.1 EV am ad (w := w) (by omega) hI) rfl rfl (Nat.le_of_ble_eq_true rfl) (gFit.of hR (by decide) (by decide) (by decide)) ?_
  refine gm_eq (st' := [.int (iI (bI (isBk V w)))]) rfl rfl ?_
  refine gm_br X (pc1 := 17) (st1 := []) rfl (fun b9 => ?_) (fun b9 => ?_)
  · have c5 : ¬ (isBk V w) := bI_f b9
    refine gm_run X 1 (pc1 := 18) (ls1 := [_, _]) (st1 := [_]) rfl ?_
    exact gm_ret X hQ rfl rfl (by unfold mState; (repeat (first | rw [if_pos (by omega)] | rw [if_neg (by omega)])); all_goals (try rfl)) rfl
  · have c5 : isBk V w := bI_t b9
    refine gm_run X 1 (pc1 := 9) (ls1 := [_, _]) (st1 := [_]) rfl ?_
    refine gm_get X rfl fX4_47 (v := .ref (ad 18)) rfl ?_
    refine gm_run X 1 (pc1 := 13) (ls1 := [_, _]) (st1 := [_, _]) rfl ?_
    refine gm_ald X 18 (x := w) (v := (V 18 w.toNat)) rfl rfl (by decide) (by show (0:Int) ≤ w ∧ w < 40; omega) (rfl) ?_
    have b13 := mI18 hI (j := w) (by omega) (by omega)
    refine gm_run X 1 (pc1 := 18) (ls1 := [_, _]) (st1 := [_]) rfl ?_
    exact gm_ret X hQ rfl rfl (by unfold mState; (repeat (first | rw [if_pos (by omega)] | rw [if_neg (by omega)])); all_goals (try rfl)) rfl
set_option maxHeartbeats 1000000 in
theorem mc_wagons (l : Launch) (EV : gEV) (am : Nat) (ad : Nat → Nat) {V : gV} {w : Int} (hw : inR w) (hI : mI V) : MC l yX4_wagons cX4_wagons 2 (some .int) 6 EV am ad [.int (iI w)] V (some (.int (iI (mMany V w)))) (mAsk0 V (isBk V w)) := by
  intro M0 hM0
  refine g_body tbX4_wagons tkX4_wagons (by decide) (by intro v hv; simp only [List.mem_cons, List.not_mem_nil, or_false] at hv; rcases hv with rfl | rfl <;> rfl) (Nat.le_of_ble_eq_true rfl) (fun z Q X hl hR hQ hE => ?_)
  subst hl
  refine (?_ : gMd z _ EV Q M0 am ad V 0 [some (.ref am), some (.int (iI w))] []) M0 hM0 gFr.rf
  have hs := mIs hI
  refine gm_run X 2 (pc1 := 2) (ls1 := [_, _]) (st1 := [_, _]) rfl ?_
  refine gm_callV X rfl mX4_174 (mc_asksBooking z.2.1 EV am ad (w := w) (by omega) hI) rfl rfl (Nat.le_of_ble_eq_true rfl) (gFit.of hR (by decide) (by decide) (by decide)) ?_
  refine gm_eq (st' := [.int (iI (bI (isBk V w)))]) rfl rfl ?_
  refine gm_br X (pc1 := 17) (st1 := []) rfl (fun b9 => ?_) (fun b9 => ?_)
  · have c5 : ¬ (isBk V w) := bI_f b9
    refine gm_run X 1 (pc1 := 18) (ls1 := [_, _]) (st1 := [_]) rfl ?_
    exact gm_ret X hQ rfl rfl (by unfold mMany; (repeat (first | rw [if_pos (by omega)] | rw [if_neg (by omega)])); all_goals (try rfl)) rfl
  · have c5 : isBk V w := bI_t b9
    refine gm_run X 1 (pc1 := 9) (ls1 := [_, _]) (st1 := [_]) rfl ?_
    refine gm_get X rfl fX4_62 (v := .ref (ad 23)) rfl ?_
    refine gm_run X 1 (pc1 := 13) (ls1 := [_, _]) (st1 := [_, _]) rfl ?_
    refine gm_ald X 23 (x := w) (v := (V 23 w.toNat)) rfl rfl (by decide) (by show (0:Int) ≤ w ∧ w < 40; omega) (rfl) ?_
    have b13 := mI23 hI (j := w) (by omega) (by omega)
    refine gm_run X 1 (pc1 := 18) (ls1 := [_, _]) (st1 := [_]) rfl ?_
    exact gm_ret X hQ rfl rfl (by unfold mMany; (repeat (first | rw [if_pos (by omega)] | rw [if_neg (by omega)])); all_goals (try rfl)) rfl
set_option maxHeartbeats 1000000 in
theorem mc_isPromised (l : Launch) (EV : gEV) (am : Nat) (ad : Nat → Nat) {V : gV} {w : Int} (hw : inR w) (hI : mI V) (hw2 : 0 ≤ w ∧ w < V 2 0) : MC l yX4_isPromised cX4_isPromised 2 (some .boolean) 1 EV am ad [.int (iI w)] V (some (.int (iI (bI (isPr V w))))) (V) := by
  intro M0 hM0
  refine g_body tbX4_isPromised tkX4_isPromised (by decide) (by intro v hv; simp only [List.mem_cons, List.not_mem_nil, or_false] at hv; rcases hv with rfl | rfl <;> rfl) (Nat.le_of_ble_eq_true rfl) (fun z Q X hl hR hQ hE => ?_)
  subst hl
  refine (?_ : gMd z _ EV Q M0 am ad V 0 [some (.ref am), some (.int (iI w))] []) M0 hM0 gFr.rf
  have hs := mIs hI
  refine gm_run X 1 (pc1 := 1) (ls1 := [_, _]) (st1 := [_]) rfl ?_
  refine gm_get X rfl fX4_16 (v := .ref (ad 5)) rfl ?_
  refine gm_run X 1 (pc1 := 5) (ls1 := [_, _]) (st1 := [_, _]) rfl ?_
  refine gm_ald X 5 (x := w) (v := (V 5 w.toNat)) rfl rfl (by decide) (by show (0:Int) ≤ w ∧ w < 30; omega) (rfl) ?_
  have b5 := mI5 hI (j := w) (by omega) (by omega)
  refine gm_run X 1 (pc1 := 7) (ls1 := [_, _]) (st1 := [_, _]) rfl ?_
  refine gm_br X (pc1 := 29) (st1 := []) rfl (fun b9 => ?_) (fun b9 => ?_)
  · have c7 : (V 5 w.toNat) = (-1) := cEq b9 (by omega) (by omega)
    refine gm_run X 1 (pc1 := 30) (ls1 := [_, _]) (st1 := [_]) rfl ?_
    exact gm_zret X hQ rfl rfl rfl (by rw [bI_0 (p := isPr V w) (by omega)]) rfl
  · have c7 : ¬ (V 5 w.toNat) = (-1) := cNq b9 (by omega) (by omega)
    refine gm_run X 1 (pc1 := 11) (ls1 := [_, _]) (st1 := [_]) rfl ?_
    refine gm_get X rfl fX4_47 (v := .ref (ad 18)) rfl ?_
    refine gm_run X 1 (pc1 := 15) (ls1 := [_, _]) (st1 := [_, _]) rfl ?_
    refine gm_get X rfl fX4_16 (v := .ref (ad 5)) rfl ?_
    refine gm_run X 1 (pc1 := 19) (ls1 := [_, _]) (st1 := [_, _, _]) rfl ?_
    refine gm_ald X 5 (x := w) (v := (V 5 w.toNat)) rfl rfl (by decide) (by show (0:Int) ≤ w ∧ w < 30; omega) (rfl) ?_
    have b19 := mI5 hI (j := w) (by omega) (by omega)
    refine gm_ald X 18 (x := (V 5 w.toNat)) (v := (V 18 (V 5 w.toNat).toNat)) rfl rfl (by decide) (by show (0:Int) ≤ (V 5 w.toNat) ∧ (V 5 w.toNat) < 40; omega) (rfl) ?_
    have b20 := mI18 hI (j := (V 5 w.toNat)) (by omega) (by omega)
    refine gm_run X 1 (pc1 := 22) (ls1 := [_, _]) (st1 := [_, _]) rfl ?_
    refine gm_br X (pc1 := 29) (st1 := []) rfl (fun b9 => ?_) (fun b9 => ?_)
    · have c22 : 4 ≤ (V 18 (V 5 w.toNat).toNat) := cLe b9 (by omega) (by omega)
      refine gm_run X 1 (pc1 := 30) (ls1 := [_, _]) (st1 := [_]) rfl ?_
      exact gm_zret X hQ rfl rfl rfl (by rw [bI_0 (p := isPr V w) (by omega)]) rfl
    · have c22 : (V 18 (V 5 w.toNat).toNat) < 4 := cNe b9 (by omega) (by omega)
      refine gm_run X 2 (pc1 := 30) (ls1 := [_, _]) (st1 := [_]) rfl ?_
      exact gm_zret X hQ rfl rfl rfl (by rw [bI_1 (p := isPr V w) (by omega)]) rfl
set_option maxHeartbeats 1000000 in
theorem mc_promised (l : Launch) (EV : gEV) (am : Nat) (ad : Nat → Nat) {V : gV} {w : Int} (hw : inR w) (hI : mI V) : MC l yX4_promised cX4_promised 2 (some .int) 6 EV am ad [.int (iI w)] V (some (.int (iI (mPromised V w)))) (mAsk0 V (isWg V w)) := by
  intro M0 hM0
  refine g_body tbX4_promised tkX4_promised (by decide) (by intro v hv; simp only [List.mem_cons, List.not_mem_nil, or_false] at hv; rcases hv with rfl | rfl <;> rfl) (Nat.le_of_ble_eq_true rfl) (fun z Q X hl hR hQ hE => ?_)
  subst hl
  refine (?_ : gMd z _ EV Q M0 am ad V 0 [some (.ref am), some (.int (iI w))] []) M0 hM0 gFr.rf
  have hs := mIs hI
  refine gm_run X 2 (pc1 := 2) (ls1 := [_, _]) (st1 := [_, _]) rfl ?_
  refine gm_callV X rfl mX4_113 (mc_asksWagon z.2.1 EV am ad (w := w) (by omega) hI) rfl rfl (Nat.le_of_ble_eq_true rfl) (gFit.of hR (by decide) (by decide) (by decide)) ?_
  refine gm_eq (st' := [.int (iI (bI (isWg V w)))]) rfl rfl ?_
  refine gm_br X (pc1 := 12) (st1 := []) rfl (fun b9 => ?_) (fun b9 => ?_)
  · have c5 : isWg V w := bI_t b9
    refine gm_run X 2 (pc1 := 14) (ls1 := [_, _]) (st1 := [_, _]) rfl ?_
    refine gm_callV X rfl mX4_116 (mc_isPromised z.2.1 EV am ad (w := w) (by omega) (mI_0 hI) (by show 0 ≤ w ∧ w < V 2 0; omega)) rfl rfl (Nat.le_of_ble_eq_true rfl) (gFit.of hR (by decide) (by decide) (by decide)) ?_
    refine gm_eq (st' := [.int (iI (bI (isPr V w)))]) rfl rfl ?_
    refine gm_br X (pc1 := 29) (st1 := []) rfl (fun b9 => ?_) (fun b9 => ?_)
    · have c17 : ¬ (isPr V w) := bI_f b9
      refine gm_run X 1 (pc1 := 30) (ls1 := [_, _]) (st1 := [_]) rfl ?_
      exact gm_ret X hQ rfl rfl (by unfold mPromised; (repeat (first | rw [if_pos (by omega)] | rw [if_neg (by omega)])); all_goals (try rfl)) rfl
    · have c17 : isPr V w := bI_t b9
      refine gm_run X 1 (pc1 := 21) (ls1 := [_, _]) (st1 := [_]) rfl ?_
      refine gm_get X rfl fX4_16 (v := .ref (ad 5)) rfl ?_
      refine gm_run X 1 (pc1 := 25) (ls1 := [_, _]) (st1 := [_, _]) rfl ?_
      refine gm_ald X 5 (x := w) (v := (V 5 w.toNat)) rfl rfl (by decide) (by show (0:Int) ≤ w ∧ w < 30; omega) (rfl) ?_
      have b25 := mI5 hI (j := w) (by omega) (by omega)
      refine gm_run X 1 (pc1 := 30) (ls1 := [_, _]) (st1 := [_]) rfl ?_
      exact gm_ret X hQ rfl rfl (by unfold mPromised; (repeat (first | rw [if_pos (by omega)] | rw [if_neg (by omega)])); all_goals (try rfl)) rfl
  · have c5 : ¬ (isWg V w) := bI_f b9
    refine gm_run X 2 (pc1 := 30) (ls1 := [_, _]) (st1 := [_]) rfl ?_
    exact gm_ret X hQ rfl rfl (by unfold mPromised; (repeat (first | rw [if_pos (by omega)] | rw [if_neg (by omega)])); all_goals (try rfl)) rfl
